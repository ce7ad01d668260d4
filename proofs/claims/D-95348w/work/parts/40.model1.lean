def cmc (σ : mMem) : Nat → Int32
  | 0 => 0
  | p + 1 => cmc σ p + σ 1 (40 * p + 3)
def cmf (σ : mMem) : Nat → Int32
  | 0 => 0
  | p + 1 => cmf σ p ||| (σ 1 (40 * p + 5) <<< (nI p &&& 31))
def cntM (σ : mMem) (np : Nat) (a : Int32) : Int32 := if a = 0 then σ 0 0 else if a = 1 then σ 0 7 else if a = 2 then cmc σ np else if a = 3 then cmf σ np else if a = 4 then σ 0 8 else if a = 5 then σ 0 9 else -1
def mst (v : Int32) : Int32 := if v ≤ 999999 then v else 999999
def mxm (x : Int32) : Int32 := if 0 ≤ x then x else 0
def mpu (x : Int32) : Int32 := if 0 ≤ x then mst x else 0
def mnc (f : Nat → Int32) (b : Nat) : Nat → (Nat → Int32)
  | 0 => f
  | c + 1 => upd (mnc f b c) (b + 8 + 4 * c + 1) (mst (mnc f b c (b + 8 + 4 * c + 1) + mnc f b c (b + 8 + 4 * c + 1) * mnc f b c (b + 8 + 4 * c + 2) / 100))
theorem mnc_ne {f : Nat → Int32} {b n k : Nat} (h : k < b + 8 ∨ b + 8 + 4 * n ≤ k ∨ (k - b) % 4 ≠ 1) : mnc f b n k = f k := by
  induction n with
  | zero => rfl
  | succ n ih => rw [mnc, pk_un (by omega), ih (by omega)]
def mak (σ : mMem) (p : Nat) (ld : Nat → Nat) : Nat → Int32
  | 0 => 0
  | c + 1 => mak σ p ld c + σ 3 (5 * p + ld c)
/-- a night of one -/
def mrs (σ : mMem) (st p n : Nat) (ld : Nat → Nat) : mMem := mup (va_up σ st (mnc (σ st) (40 * p) n)) st (40 * p) (mpu (σ st (40 * p) + σ st (40 * p + 1) - mak σ p ld n))
set_option maxHeartbeats 4000000 in
set_option maxRecDepth 100000 in
theorem mt_X8_in (l : Launch)  (v a b : Int64) : Met l yX8_in (ws_ yX8_in cX8_in 6 (some .boolean)) ({ frames := 0, cells := 0, slots := 0, locals := 0 }) (va_Pc [.long v, .long a, .long b] (fun _ => True)) (vp_Si (fun r : Int32 => r = bi (a ≤ v ∧ v ≤ b))) 0 0 (fun _ => False) := by
  refine Met.ofW (cc := cX8_in) (maxL := 6) (ret := (some .boolean)) (by decide) rfl ?_
  intro pp ee ss mm args below meth cd s₁ B hml hv
  obtain ⟨rfl, -⟩ := hv
  have hx := B.exec
  have hb := B.bytes
  have hr := B.returns
  have hts := atoms_spec (ws := ws_ yX8_in cX8_in 6 (some .boolean)) B.pre
  have hts : ∀ w ∈ lw_all, w.before _ ss = true := fun w h => hts w (List.mem_cons_of_mem _ h)
  have hown : ss.vm.findClass RX8 = some mm.cls := findClass_of_methodNamed B.named
  have hlocks := B.notSynchronized
  have hl := lv_entry ([.long v, .long a, .long b]) (n := 6) (Nat.le_of_ble_eq_true rfl)
  rw [lg_entry_eq]
  generalize (lg_sl ([.long v, .long a, .long b]) ++ List.replicate (6 - (lg_sl ([.long v, .long a, .long b])).length) Slot.unset).toArray = ls at hl ⊢
  have hl : lv_has ls 6 [(0, .long v), (2, .long a), (4, .long b)] := hl
  refine lv_lload_n hx hb dX8_in_0 rfl (lv_at hl 0 rfl) ?_
  refine lv_lload_n hx hb dX8_in_1 rfl (lv_at hl 1 rfl) ?_
  refine mg_lcmp hx hb dX8_in_2 ?_
  refine lv_if_lt (tgt := 17) hx hb dX8_in_3 (by decide) (fun c_1 => ?_) (fun c_1 => ?_)
  · have c_1 : v < a := lc_lt c_1
    refine lv_iconst (v := 0) hx hb dX8_in_17 (by decide) ?_
    exact W.zret (v := 0) hx hb hr rfl (fun t ht hW => ⟨_, rfl, bi_0 (fun q => Int64.not_lt.mpr q.1 c_1), ht⟩) (fun q hq => by cases hq) dX8_in_18
  · have c_1 : ¬ v < a := lc_nlt c_1
    refine lv_lload_n hx hb dX8_in_6 rfl (lv_at hl 0 rfl) ?_
    refine lv_lload hx hb dX8_in_7 (lv_at hl 2 rfl) ?_
    refine mg_lcmp hx hb dX8_in_9 ?_
    refine lv_if_gt (tgt := 17) hx hb dX8_in_10 (by decide) (fun c_2 => ?_) (fun c_2 => ?_)
    · have c_2 : b < v := lc_gt c_2
      refine lv_iconst (v := 0) hx hb dX8_in_17 (by decide) ?_
      exact W.zret (v := 0) hx hb hr rfl (fun t ht hW => ⟨_, rfl, bi_0 (fun q => Int64.not_lt.mpr q.2 c_2), ht⟩) (fun q hq => by cases hq) dX8_in_18
    · have c_2 : ¬ b < v := lc_ngt c_2
      refine lv_iconst (v := 1) hx hb dX8_in_13 (by decide) ?_
      refine lv_goto (tgt := 18) hx hb dX8_in_14 (by decide) ?_
      exact W.zret (v := 1) hx hb hr rfl (fun t ht hW => ⟨_, rfl, bi_1 ⟨Int64.not_lt.mp c_1, Int64.not_lt.mp c_2⟩, ht⟩) (fun q hq => by cases hq) dX8_in_18
set_option maxHeartbeats 4000000 in
set_option maxRecDepth 100000 in
theorem mt_X8_isLender (l : Launch)  (v : Int32) : Met l yX8_isLender (ws_ yX8_isLender cX8_isLender 1 (some .boolean)) ({ frames := 1, cells := 0, slots := 0, locals := 25 }) (va_Pc [.int v] (fun _ => True)) (vp_Si (fun r : Int32 => r = bi (ik v 5))) 0 0 (fun _ => False) := by
  refine Met.ofW (cc := cX8_isLender) (maxL := 1) (ret := (some .boolean)) (by decide) rfl ?_
  intro pp ee ss mm args below meth cd s₁ B hml hv
  obtain ⟨rfl, -⟩ := hv
  have hx := B.exec
  have hb := B.bytes
  have hr := B.returns
  have hts := atoms_spec (ws := ws_ yX8_isLender cX8_isLender 1 (some .boolean)) B.pre
  have hts : ∀ w ∈ lw_all, w.before _ ss = true := fun w h => hts w (List.mem_cons_of_mem _ h)
  have hown : ss.vm.findClass RX8 = some mm.cls := findClass_of_methodNamed B.named
  have hlocks := B.notSynchronized
  have hl := lv_entry ([.int v]) (n := 1) (Nat.le_of_ble_eq_true rfl)
  rw [lg_entry_eq]
  generalize (lg_sl ([.int v]) ++ List.replicate (1 - (lg_sl ([.int v])).length) Slot.unset).toArray = ls at hl ⊢
  have hl : lv_has ls 1 [(0, .int v)] := hl
  refine lv_iload_n hx hb dX8_isLender_0 rfl (lv_at hl 0 rfl) ?_
  refine lv_i2l (v := v.toInt64) hx hb dX8_isLender_1 rfl ?_
  refine lv_lconst (v := 0) hx hb dX8_isLender_2 (by decide) ?_
  refine lv_ldc2 hx hb hown (hts _ q889) dX8_isLender_3 ?_
  refine vp_callSi (W.runS (As := [.long v.toInt64, .long 0, .long 4]) (rest := []) ⟨hx, hb, hml, hown, hts⟩ (mt_X8_in l v.toInt64 0 4) (va_cwS 3 hts (lw_S q854 q855 q55 q856) rfl rfl rfl (by decide +kernel) ⟨Nat.le_of_ble_eq_true rfl, Nat.le_of_ble_eq_true rfl⟩) ⟨fun _ _ _ _ h => h, fun _ _ _ => ⟨rfl, trivial⟩⟩ rfl rfl hl.1 rfl (lv_room (Nat.le_of_ble_eq_true rfl)) dX8_isLender_6 ⟨Nat.le_of_ble_eq_true rfl, Nat.le_of_ble_eq_true rfl⟩) (fun r_1 hr_1 => ?_)
  subst hr_1
  refine lv_rwi (bi_c (lik_of (n := 5) rfl rfl)) ?_
  exact W.zret (v := (bi (ik v 5))) hx hb hr bi_nar (fun t ht hW => ⟨_, rfl, rfl, ht⟩) (fun q hq => by cases hq) dX8_isLender_9
set_option maxHeartbeats 4000000 in
set_option maxRecDepth 100000 in
theorem mt_X8_isSheet (l : Launch)  (v : Int32) : Met l yX8_isSheet (ws_ yX8_isSheet cX8_isSheet 1 (some .boolean)) ({ frames := 1, cells := 0, slots := 0, locals := 25 }) (va_Pc [.int v] (fun _ => True)) (vp_Si (fun r : Int32 => r = bi (ik v 4))) 0 0 (fun _ => False) := by
  refine Met.ofW (cc := cX8_isSheet) (maxL := 1) (ret := (some .boolean)) (by decide) rfl ?_
  intro pp ee ss mm args below meth cd s₁ B hml hv
  obtain ⟨rfl, -⟩ := hv
  have hx := B.exec
  have hb := B.bytes
  have hr := B.returns
  have hts := atoms_spec (ws := ws_ yX8_isSheet cX8_isSheet 1 (some .boolean)) B.pre
  have hts : ∀ w ∈ lw_all, w.before _ ss = true := fun w h => hts w (List.mem_cons_of_mem _ h)
  have hown : ss.vm.findClass RX8 = some mm.cls := findClass_of_methodNamed B.named
  have hlocks := B.notSynchronized
  have hl := lv_entry ([.int v]) (n := 1) (Nat.le_of_ble_eq_true rfl)
  rw [lg_entry_eq]
  generalize (lg_sl ([.int v]) ++ List.replicate (1 - (lg_sl ([.int v])).length) Slot.unset).toArray = ls at hl ⊢
  have hl : lv_has ls 1 [(0, .int v)] := hl
  refine lv_iload_n hx hb dX8_isSheet_0 rfl (lv_at hl 0 rfl) ?_
  refine lv_i2l (v := v.toInt64) hx hb dX8_isSheet_1 rfl ?_
  refine lv_lconst (v := 0) hx hb dX8_isSheet_2 (by decide) ?_
  refine lv_ldc2 hx hb hown (hts _ q881) dX8_isSheet_3 ?_
  refine vp_callSi (W.runS (As := [.long v.toInt64, .long 0, .long 3]) (rest := []) ⟨hx, hb, hml, hown, hts⟩ (mt_X8_in l v.toInt64 0 3) (va_cwS 3 hts (lw_S q854 q855 q55 q856) rfl rfl rfl (by decide +kernel) ⟨Nat.le_of_ble_eq_true rfl, Nat.le_of_ble_eq_true rfl⟩) ⟨fun _ _ _ _ h => h, fun _ _ _ => ⟨rfl, trivial⟩⟩ rfl rfl hl.1 rfl (lv_room (Nat.le_of_ble_eq_true rfl)) dX8_isSheet_6 ⟨Nat.le_of_ble_eq_true rfl, Nat.le_of_ble_eq_true rfl⟩) (fun r_1 hr_1 => ?_)
  subst hr_1
  refine lv_rwi (bi_c (lik_of (n := 4) rfl rfl)) ?_
  exact W.zret (v := (bi (ik v 4))) hx hb hr bi_nar (fun t ht hW => ⟨_, rfl, rfl, ht⟩) (fun q hq => by cases hq) dX8_isSheet_9
set_option maxHeartbeats 4000000 in
set_option maxRecDepth 100000 in
theorem mt_X8_isLane (l : Launch)  (v : Int32) : Met l yX8_isLane (ws_ yX8_isLane cX8_isLane 1 (some .boolean)) ({ frames := 1, cells := 0, slots := 0, locals := 25 }) (va_Pc [.int v] (fun _ => True)) (vp_Si (fun r : Int32 => r = bi (ik v 3))) 0 0 (fun _ => False) := by
  refine Met.ofW (cc := cX8_isLane) (maxL := 1) (ret := (some .boolean)) (by decide) rfl ?_
  intro pp ee ss mm args below meth cd s₁ B hml hv
  obtain ⟨rfl, -⟩ := hv
  have hx := B.exec
  have hb := B.bytes
  have hr := B.returns
  have hts := atoms_spec (ws := ws_ yX8_isLane cX8_isLane 1 (some .boolean)) B.pre
  have hts : ∀ w ∈ lw_all, w.before _ ss = true := fun w h => hts w (List.mem_cons_of_mem _ h)
  have hown : ss.vm.findClass RX8 = some mm.cls := findClass_of_methodNamed B.named
  have hlocks := B.notSynchronized
  have hl := lv_entry ([.int v]) (n := 1) (Nat.le_of_ble_eq_true rfl)
  rw [lg_entry_eq]
  generalize (lg_sl ([.int v]) ++ List.replicate (1 - (lg_sl ([.int v])).length) Slot.unset).toArray = ls at hl ⊢
  have hl : lv_has ls 1 [(0, .int v)] := hl
  refine lv_iload_n hx hb dX8_isLane_0 rfl (lv_at hl 0 rfl) ?_
  refine lv_i2l (v := v.toInt64) hx hb dX8_isLane_1 rfl ?_
  refine lv_lconst (v := 0) hx hb dX8_isLane_2 (by decide) ?_
  refine lv_ldc2 hx hb hown (hts _ q901) dX8_isLane_3 ?_
  refine vp_callSi (W.runS (As := [.long v.toInt64, .long 0, .long 2]) (rest := []) ⟨hx, hb, hml, hown, hts⟩ (mt_X8_in l v.toInt64 0 2) (va_cwS 3 hts (lw_S q854 q855 q55 q856) rfl rfl rfl (by decide +kernel) ⟨Nat.le_of_ble_eq_true rfl, Nat.le_of_ble_eq_true rfl⟩) ⟨fun _ _ _ _ h => h, fun _ _ _ => ⟨rfl, trivial⟩⟩ rfl rfl hl.1 rfl (lv_room (Nat.le_of_ble_eq_true rfl)) dX8_isLane_6 ⟨Nat.le_of_ble_eq_true rfl, Nat.le_of_ble_eq_true rfl⟩) (fun r_1 hr_1 => ?_)
  subst hr_1
  refine lv_rwi (bi_c (lik_of (n := 3) rfl rfl)) ?_
  exact W.zret (v := (bi (ik v 3))) hx hb hr bi_nar (fun t ht hW => ⟨_, rfl, rfl, ht⟩) (fun q hq => by cases hq) dX8_isLane_9
set_option maxHeartbeats 4000000 in
set_option maxRecDepth 100000 in
theorem mt_X8_isOne (l : Launch) (D : va_G) (dA : Nat → ClassId) (st : Nat) (hst : st = 1 ∨ st = 2) (ad : Nat → Nat) (N : Nat) (hA : yA ad N) (σ : mMem) (p : Int32) (np : Nat) (hn : σ 0 0 = nI np) (hn5 : np ≤ 5) : Met l yX8_isOne (ws_ yX8_isOne cX8_isOne 2 (some .boolean)) ({ frames := 1, cells := 0, slots := 0, locals := 25 }) (va_Pc [.ref (ad 0), .int p] (mPre D dA (shM st) ad N σ)) (vp_Si (fun r : Int32 => r = bi (ik p np))) 0 0 (fun _ => False) := by
  refine Met.ofW (cc := cX8_isOne) (maxL := 2) (ret := (some .boolean)) (by decide) rfl ?_
  intro pp ee ss mm args below meth cd s₁ B hml hv
  obtain ⟨rfl, hP, hE⟩ := hv
  have hx := B.exec
  have hb := B.bytes
  have hr := B.returns
  have hts := atoms_spec (ws := ws_ yX8_isOne cX8_isOne 2 (some .boolean)) B.pre
  have hts : ∀ w ∈ lw_all, w.before _ ss = true := fun w h => hts w (List.mem_cons_of_mem _ h)
  have hown : ss.vm.findClass RX8 = some mm.cls := findClass_of_methodNamed B.named
  have hlocks := B.notSynchronized
  have hNN := hA.1
  have hl := lv_entry ([.ref (ad 0), .int p]) (n := 2) (Nat.le_of_ble_eq_true rfl)
  rw [lg_entry_eq]
  generalize (lg_sl ([.ref (ad 0), .int p]) ++ List.replicate (2 - (lg_sl ([.ref (ad 0), .int p])).length) Slot.unset).toArray = ls at hl ⊢
  have hl : lv_has ls 2 [(0, .ref (ad 0)), (1, .int p)] := hl
  refine lv_iload_n hx hb dX8_isOne_0 rfl (lv_at hl 1 rfl) ?_
  refine lv_i2l (v := p.toInt64) hx hb dX8_isOne_1 rfl ?_
  refine lv_lconst (v := 0) hx hb dX8_isOne_2 (by decide) ?_
  refine lv_aload_n hx hb dX8_isOne_3 rfl (lv_at hl 0 rfl) ?_
  refine mg_get hx hb hts in_X8 hown hE hP 0 (yl_n hA (by decide)) rfl rfl 0 rfl (by decide) (hts _ q764) (fun _ h9 => h9) dX8_isOne_4 ?_
  refine lv_iconst (v := 1) hx hb dX8_isOne_7 (by decide) ?_
  refine lv_isub hx hb dX8_isOne_8 ?_
  refine lv_i2l (v := (σ 0 0 - 1).toInt64) hx hb dX8_isOne_9 rfl ?_
  refine vp_callSi (W.runS (As := [.long p.toInt64, .long 0, .long ((σ 0 0 - 1).toInt64)]) (rest := []) ⟨hx, hb, hml, hown, hts⟩ (mt_X8_in l p.toInt64 0 ((σ 0 0 - 1).toInt64)) (va_cwS 3 hts (lw_S q854 q855 q55 q856) rfl rfl rfl (by decide +kernel) ⟨Nat.le_of_ble_eq_true rfl, Nat.le_of_ble_eq_true rfl⟩) ⟨fun _ _ _ _ h => h, fun _ _ _ => ⟨rfl, trivial⟩⟩ rfl rfl hl.1 rfl (lv_room (Nat.le_of_ble_eq_true rfl)) dX8_isOne_10 ⟨Nat.le_of_ble_eq_true rfl, Nat.le_of_ble_eq_true rfl⟩) (fun r_1 hr_1 => ?_)
  subst hr_1
  refine lv_rwi (bi_c (lik_of (n := np) rfl ((Int32.toInt_toInt64 _).trans (nI_m1 hn (by omega))))) ?_
  exact W.zret (v := (bi (ik p np))) hx hb hr bi_nar (fun t ht hW => ⟨_, rfl, rfl, ht⟩) (fun q hq => by cases hq) dX8_isOne_13
set_option maxHeartbeats 4000000 in
set_option maxRecDepth 100000 in
theorem mt_X8_isCoat (l : Launch) (D : va_G) (dA : Nat → ClassId) (st : Nat) (hst : st = 1 ∨ st = 2) (ad : Nat → Nat) (N : Nat) (hA : yA ad N) (σ : mMem) (p c : Int32) (np : Nat) (nc : Nat → Nat) (ld : Nat → Nat → Nat) (hF : yFk σ 1 np nc ld) : Met l yX8_isCoat (ws_ yX8_isCoat cX8_isCoat 3 (some .boolean)) ({ frames := 2, cells := 0, slots := 0, locals := 46 }) (va_Pc [.ref (ad 0), .int p, .int c] (mPre D dA (shM st) ad N σ)) (vp_Si (fun r : Int32 => r = bi (ik p np ∧ ik c (nc (tn p))))) 0 0 (fun _ => False) := by
  refine Met.ofW (cc := cX8_isCoat) (maxL := 3) (ret := (some .boolean)) (by decide) rfl ?_
  intro pp ee ss mm args below meth cd s₁ B hml hv
  obtain ⟨rfl, hP, hE⟩ := hv
  have hx := B.exec
  have hb := B.bytes
  have hr := B.returns
  have hts := atoms_spec (ws := ws_ yX8_isCoat cX8_isCoat 3 (some .boolean)) B.pre
  have hts : ∀ w ∈ lw_all, w.before _ ss = true := fun w h => hts w (List.mem_cons_of_mem _ h)
  have hown : ss.vm.findClass RX8 = some mm.cls := findClass_of_methodNamed B.named
  have hlocks := B.notSynchronized
  have hNN := hA.1
  have hn5 := hF.n5
  have hl := lv_entry ([.ref (ad 0), .int p, .int c]) (n := 3) (Nat.le_of_ble_eq_true rfl)
  rw [lg_entry_eq]
  generalize (lg_sl ([.ref (ad 0), .int p, .int c]) ++ List.replicate (3 - (lg_sl ([.ref (ad 0), .int p, .int c])).length) Slot.unset).toArray = ls at hl ⊢
  have hl : lv_has ls 3 [(0, .ref (ad 0)), (1, .int p), (2, .int c)] := hl
  refine lv_aload_n hx hb dX8_isCoat_0 rfl (lv_at hl 0 rfl) ?_
  refine lv_iload_n hx hb dX8_isCoat_1 rfl (lv_at hl 1 rfl) ?_
  refine vp_callSi (W.runV (As := [.int p]) (rest := []) ⟨hx, hb, hml, hown, hts⟩ (mt_X8_isOne l D dA st hst ad N hA σ p np hF.n hF.n5) (cwV 1 hts (lw_V q863 q865 qs20 q55 q866) rfl rfl rfl (by decide +kernel) ⟨Nat.le_of_ble_eq_true rfl, Nat.le_of_ble_eq_true rfl⟩) ⟨mPre.blind, m_recv hE hP 0 (yl_n hA (by decide)) rfl rfl, mPre.at hE hP⟩ rfl rfl hl.1 rfl (lv_room (Nat.le_of_ble_eq_true rfl)) dX8_isCoat_2 ⟨Nat.le_of_ble_eq_true rfl, Nat.le_of_ble_eq_true rfl⟩) (fun r_1 hr_1 => ?_)
  subst hr_1
  refine lv_if_eq (tgt := 35) hx hb dX8_isCoat_5 (by decide) (fun c_2 => ?_) (fun c_2 => ?_)
  · have c_2 : ¬ (ik p np) := bi_f c_2
    refine lv_iconst (v := 0) hx hb dX8_isCoat_35 (by decide) ?_
    exact W.zret (v := 0) hx hb hr rfl (fun t ht hW => ⟨_, rfl, bi_0 (fun q => c_2 q.1), ht⟩) (fun q hq => by cases hq) dX8_isCoat_36
  · have c_2 : ik p np := bi_t c_2
    have c_2_lt := ik_lt c_2
    have c_2_m := hF.m c_2_lt
    have c_2_8 := hF.m8 c_2_lt
    refine lv_iload_n hx hb dX8_isCoat_8 rfl (lv_at hl 2 rfl) ?_
    refine lv_i2l (v := c.toInt64) hx hb dX8_isCoat_9 rfl ?_
    refine lv_lconst (v := 0) hx hb dX8_isCoat_10 (by decide) ?_
    refine lv_aload_n hx hb dX8_isCoat_11 rfl (lv_at hl 0 rfl) ?_
    refine mg_ref hx hb hts in_X8 hown hE hP 0 (yl_n hA (by decide)) rfl rfl 1 rfl (by decide) (hts _ q765) (fun _ h9 => h9) dX8_isCoat_12 ?_
    refine lv_bipush (v := 40) hx hb dX8_isCoat_15 (by decide) ?_
    refine lv_iload_n hx hb dX8_isCoat_17 rfl (lv_at hl 1 rfl) ?_
    refine lv_imul hx hb dX8_isCoat_18 ?_
    refine lv_iconst (v := 3) hx hb dX8_isCoat_19 (by decide) ?_
    refine lv_iadd hx hb dX8_isCoat_20 ?_
    refine mg_ild hx hb hE hP 1 (yl_n hA (by decide)) rfl (40 * (tn p) + 3) (by omega) (mi_add (mi_mul rfl (ik_eq c_2)) rfl) (by decide) dX8_isCoat_21 ?_
    refine lv_iconst (v := 1) hx hb dX8_isCoat_22 (by decide) ?_
    refine lv_isub hx hb dX8_isCoat_23 ?_
    refine lv_i2l (v := (σ 1 (40 * (tn p) + 3) - 1).toInt64) hx hb dX8_isCoat_24 rfl ?_
    refine vp_callSi (W.runS (As := [.long c.toInt64, .long 0, .long ((σ 1 (40 * (tn p) + 3) - 1).toInt64)]) (rest := []) ⟨hx, hb, hml, hown, hts⟩ (mt_X8_in l c.toInt64 0 ((σ 1 (40 * (tn p) + 3) - 1).toInt64)) (va_cwS 3 hts (lw_S q854 q855 q55 q856) rfl rfl rfl (by decide +kernel) ⟨Nat.le_of_ble_eq_true rfl, Nat.le_of_ble_eq_true rfl⟩) ⟨fun _ _ _ _ h => h, fun _ _ _ => ⟨rfl, trivial⟩⟩ rfl rfl hl.1 rfl (lv_room (Nat.le_of_ble_eq_true rfl)) dX8_isCoat_25 ⟨Nat.le_of_ble_eq_true rfl, Nat.le_of_ble_eq_true rfl⟩) (fun r_3 hr_3 => ?_)
    subst hr_3
    refine lv_rwi (bi_c (lik_of (n := nc (tn p)) rfl ((Int32.toInt_toInt64 _).trans (nI_m1 c_2_m (by omega))))) ?_
    refine lv_if_eq (tgt := 35) hx hb dX8_isCoat_28 (by decide) (fun c_4 => ?_) (fun c_4 => ?_)
    · have c_4 : ¬ (ik c (nc (tn p))) := bi_f c_4
      refine lv_iconst (v := 0) hx hb dX8_isCoat_35 (by decide) ?_
      exact W.zret (v := 0) hx hb hr rfl (fun t ht hW => ⟨_, rfl, bi_0 (fun q => c_4 q.2), ht⟩) (fun q hq => by cases hq) dX8_isCoat_36
    · have c_4 : ik c (nc (tn p)) := bi_t c_4
      have c_4_lt := ik_lt c_4
      refine lv_iconst (v := 1) hx hb dX8_isCoat_31 (by decide) ?_
      refine lv_goto (tgt := 36) hx hb dX8_isCoat_32 (by decide) ?_
      exact W.zret (v := 1) hx hb hr rfl (fun t ht hW => ⟨_, rfl, bi_1 ⟨c_2, c_4⟩, ht⟩) (fun q hq => by cases hq) dX8_isCoat_36
set_option maxHeartbeats 4000000 in
set_option maxRecDepth 100000 in
theorem mt_X8_person (l : Launch) (D : va_G) (dA : Nat → ClassId) (st : Nat) (hst : st = 1 ∨ st = 2) (ad : Nat → Nat) (N : Nat) (hA : yA ad N) (σ : mMem) (a1 a2 a3 : Int32) (np : Nat) (nc : Nat → Nat) (ld : Nat → Nat → Nat) (hF : yFk σ 1 np nc ld) : Met l yX8_person (ws_ yX8_person cX8_person 5 (some .int)) ({ frames := 1, cells := 0, slots := 0, locals := 25 }) (va_Pc [.ref (ad 0), .int a1, .int a2, .int a3] (mPre D dA (shM st) ad N σ)) (va_Qi (fun (r : Int32) (u : mMem) => (if ik a1 10000 then (if ik a2 100 then (if iv a3 1 60 then (if np = 5 then (r = -3 ∧ u = σ) else (r = nI np ∧ u = mup (zrF (mup (mup (mup (mup (zrF σ 1 (40 * np) 40) 1 (40 * np) a1) 1 (40 * np + 1) a2) 1 (40 * np + 2) a3) 1 (40 * np + 4) (-4)) 3 (5 * np) 5) 0 0 (nI (np + 1)))) else (r = -1 ∧ u = σ)) else (r = -1 ∧ u = σ)) else (r = -1 ∧ u = σ))) (mB D dA (shM st) ad N) (mAd ad N)) 0 0 (mAd ad N) := by
  refine Met.ofW (cc := cX8_person) (maxL := 5) (ret := (some .int)) (by decide) rfl ?_
  intro pp ee ss mm args below meth cd s₁ B hml hv
  obtain ⟨rfl, hP, hE⟩ := hv
  have hx := B.exec
  have hb := B.bytes
  have hr := B.returns
  have hts := atoms_spec (ws := ws_ yX8_person cX8_person 5 (some .int)) B.pre
  have hts : ∀ w ∈ lw_all, w.before _ ss = true := fun w h => hts w (List.mem_cons_of_mem _ h)
  have hown : ss.vm.findClass RX8 = some mm.cls := findClass_of_methodNamed B.named
  have hlocks := B.notSynchronized
  have hD := hA.2.self
  have hS : va_S (mAd ad N) ss.heap ss.heap [] := va_S.rf
  have hNN := hA.1
  have hn5 := hF.n5
  have hl := lv_entry ([.ref (ad 0), .int a1, .int a2, .int a3]) (n := 5) (Nat.le_of_ble_eq_true rfl)
  rw [lg_entry_eq]
  generalize (lg_sl ([.ref (ad 0), .int a1, .int a2, .int a3]) ++ List.replicate (5 - (lg_sl ([.ref (ad 0), .int a1, .int a2, .int a3])).length) Slot.unset).toArray = ls at hl ⊢
  have hl : lv_has ls 5 [(0, .ref (ad 0)), (1, .int a1), (2, .int a2), (3, .int a3)] := hl
  refine lv_iload_n hx hb dX8_person_0 rfl (lv_at hl 1 rfl) ?_
  refine lv_i2l (v := a1.toInt64) hx hb dX8_person_1 rfl ?_
  refine lv_lconst (v := 0) hx hb dX8_person_2 (by decide) ?_
  refine lv_ldc2 hx hb hown (hts _ q853) dX8_person_3 ?_
  refine vp_callSi (W.runS (As := [.long a1.toInt64, .long 0, .long 9999]) (rest := []) ⟨hx, hb, hml, hown, hts⟩ (mt_X8_in l a1.toInt64 0 9999) (va_cwS 3 hts (lw_S q854 q855 q55 q856) rfl rfl rfl (by decide +kernel) ⟨Nat.le_of_ble_eq_true rfl, Nat.le_of_ble_eq_true rfl⟩) ⟨fun _ _ _ _ h => h, fun _ _ _ => ⟨rfl, trivial⟩⟩ rfl rfl hl.1 rfl (lv_room (Nat.le_of_ble_eq_true rfl)) dX8_person_6 ⟨Nat.le_of_ble_eq_true rfl, Nat.le_of_ble_eq_true rfl⟩) (fun r_1 hr_1 => ?_)
  subst hr_1
  refine lv_rwi (bi_c (lik_of (n := 10000) rfl rfl)) ?_
  refine lv_if_eq (tgt := 36) hx hb dX8_person_9 (by decide) (fun c_2 => ?_) (fun c_2 => ?_)
  · have c_2 : ¬ (ik a1 10000) := bi_f c_2
    refine lv_iconst (v := (-1)) hx hb dX8_person_36 (by decide) ?_
    exact W.iret (v := (-1)) hx hb hr (fun t ht hW => ⟨⟨_, _, rfl, by dsimp only; rw [if_neg c_2]; exact ⟨rfl, rfl⟩, mB.of ht hP⟩, hS.F ht⟩) hS.2.2 dX8_person_37
  · have c_2 : ik a1 10000 := bi_t c_2
    have c_2_lt := ik_lt c_2
    refine lv_iload_n hx hb dX8_person_12 rfl (lv_at hl 2 rfl) ?_
    refine lv_i2l (v := a2.toInt64) hx hb dX8_person_13 rfl ?_
    refine lv_lconst (v := 0) hx hb dX8_person_14 (by decide) ?_
    refine lv_ldc2 hx hb hown (hts _ q857) dX8_person_15 ?_
    refine vp_callSi (W.runS (As := [.long a2.toInt64, .long 0, .long 99]) (rest := []) ⟨hx, hb, hml, hown, hts⟩ (mt_X8_in l a2.toInt64 0 99) (va_cwS 3 hts (lw_S q854 q855 q55 q856) rfl rfl rfl (by decide +kernel) ⟨Nat.le_of_ble_eq_true rfl, Nat.le_of_ble_eq_true rfl⟩) ⟨fun _ _ _ _ h => h, fun _ _ _ => ⟨rfl, trivial⟩⟩ rfl rfl hl.1 rfl (lv_room (Nat.le_of_ble_eq_true rfl)) dX8_person_18 ⟨Nat.le_of_ble_eq_true rfl, Nat.le_of_ble_eq_true rfl⟩) (fun r_3 hr_3 => ?_)
    subst hr_3
    refine lv_rwi (bi_c (lik_of (n := 100) rfl rfl)) ?_
    refine lv_if_eq (tgt := 36) hx hb dX8_person_21 (by decide) (fun c_4 => ?_) (fun c_4 => ?_)
    · have c_4 : ¬ (ik a2 100) := bi_f c_4
      refine lv_iconst (v := (-1)) hx hb dX8_person_36 (by decide) ?_
      exact W.iret (v := (-1)) hx hb hr (fun t ht hW => ⟨⟨_, _, rfl, by dsimp only; rw [if_pos c_2, if_neg c_4]; exact ⟨rfl, rfl⟩, mB.of ht hP⟩, hS.F ht⟩) hS.2.2 dX8_person_37
    · have c_4 : ik a2 100 := bi_t c_4
      have c_4_lt := ik_lt c_4
      refine lv_iload_n hx hb dX8_person_24 rfl (lv_at hl 3 rfl) ?_
      refine lv_i2l (v := a3.toInt64) hx hb dX8_person_25 rfl ?_
      refine lv_lconst (v := 1) hx hb dX8_person_26 (by decide) ?_
      refine lv_ldc2 hx hb hown (hts _ q858) dX8_person_27 ?_
      refine vp_callSi (W.runS (As := [.long a3.toInt64, .long 1, .long 60]) (rest := []) ⟨hx, hb, hml, hown, hts⟩ (mt_X8_in l a3.toInt64 1 60) (va_cwS 3 hts (lw_S q854 q855 q55 q856) rfl rfl rfl (by decide +kernel) ⟨Nat.le_of_ble_eq_true rfl, Nat.le_of_ble_eq_true rfl⟩) ⟨fun _ _ _ _ h => h, fun _ _ _ => ⟨rfl, trivial⟩⟩ rfl rfl hl.1 rfl (lv_room (Nat.le_of_ble_eq_true rfl)) dX8_person_30 ⟨Nat.le_of_ble_eq_true rfl, Nat.le_of_ble_eq_true rfl⟩) (fun r_5 hr_5 => ?_)
      subst hr_5
      refine lv_rwi (bi_c (liv_of rfl rfl)) ?_
      refine lv_if_ne (tgt := 38) hx hb dX8_person_33 (by decide) (fun c_6 => ?_) (fun c_6 => ?_)
      · have c_6 : iv a3 1 60 := bi_t c_6
        have c_6_tn := iv_tn c_6 (by decide)
        refine lv_aload_n hx hb dX8_person_38 rfl (lv_at hl 0 rfl) ?_
        refine mg_get hx hb hts in_X8 hown hE hP 0 (yl_n hA (by decide)) rfl rfl 0 rfl (by decide) (hts _ q764) (fun _ h9 => h9) dX8_person_39 ?_
        refine lv_iconst (v := 5) hx hb dX8_person_42 (by decide) ?_
        refine lv_icmp_ne (tgt := 49) hx hb dX8_person_43 (by decide) (fun c_7 => ?_) (fun c_7 => ?_)
        · have nc_7 : np ≠ 5 := mi_ne hF.n rfl (by omega) (by omega) c_7
          refine lv_iconst (v := 0) hx hb dX8_person_49 (by decide) ?_
          refine lv_istore (lv' := [(4, .int 0), (0, .ref (ad 0)), (1, .int a1), (2, .int a2), (3, .int a3)]) hx hb dX8_person_50 hl (by decide) rfl (fun ls hl => ?_)
          have lp52 : ∀ (fu : Nat) (k : Nat) (_ : k ≤ 40) (_ : 40 - k < fu) (H : Heap) (locs : List Loc) (_ : va_P D xCl (mW dA (shM st) ad N (zrF σ 1 (40 * np) k)) H) (_ : va_S (mAd ad N) ss.heap H locs) (ls : Array Slot) (_ : lv_has ls 5 [(4, .int (nI k)), (0, .ref (ad 0)), (1, .int a1), (2, .int a2), (3, .int a3)]), W pp l ee (headSpec (ws_ yX8_person cX8_person 5 (some .int)) ({ frames := 1, cells := 0, slots := 0, locals := 25 })).room ss mm ([.ref (ad 0), .int a1, .int a2, .int a3] : List Value).toArray below meth cd H locs 0 0 (MQ below (va_Qi (fun (r : Int32) (u : mMem) => (if ik a1 10000 then (if ik a2 100 then (if iv a3 1 60 then (if np = 5 then (r = -3 ∧ u = σ) else (r = nI np ∧ u = mup (zrF (mup (mup (mup (mup (zrF σ 1 (40 * np) 40) 1 (40 * np) a1) 1 (40 * np + 1) a2) 1 (40 * np + 2) a3) 1 (40 * np + 4) (-4)) 3 (5 * np) 5) 0 0 (nI (np + 1)))) else (r = -1 ∧ u = σ)) else (r = -1 ∧ u = σ)) else (r = -1 ∧ u = σ))) (mB D dA (shM st) ad N) (mAd ad N)) ([.ref (ad 0), .int a1, .int a2, .int a3] : List Value).toArray ss 0 0 (mAd ad N)) (F0 mm 52 ls []) := by
            intro fu
            induction fu with
            | zero => intro k hk hfu; exact absurd hfu (Nat.not_lt_zero _)
            | succ fu ih52 =>
              intro k hk hfu H locs hP hS ls hl
              refine lv_iload hx hb dX8_person_52 (lv_at hl 0 rfl) ?_
              refine lv_bipush (v := 40) hx hb dX8_person_54 (by decide) ?_
              refine lv_icmp_ge (tgt := 81) hx hb dX8_person_56 (by decide) (fun c_8 => ?_) (fun c_8 => ?_)
              · have nc_8 : 40 ≤ k := mi_le rfl rfl (by omega) (by omega) c_8
                refine lv_aload_n hx hb dX8_person_81 rfl (lv_at hl 1 rfl) ?_
                refine mg_ref hx hb hts in_X8 hown hE hP 0 (yl_n hA (by decide)) rfl rfl 1 rfl (by decide) (hts _ q765) (fun _ h9 => h9) dX8_person_82 ?_
                refine lv_bipush (v := 40) hx hb dX8_person_85 (by decide) ?_
                refine lv_aload_n hx hb dX8_person_87 rfl (lv_at hl 1 rfl) ?_
                refine mg_get hx hb hts in_X8 hown hE hP 0 (yl_n hA (by decide)) rfl rfl 0 rfl (by decide) (hts _ q764) (fun _ h9 => h9) dX8_person_88 ?_
                refine lv_imul hx hb dX8_person_91 ?_
                refine lv_iload_n hx hb dX8_person_92 rfl (lv_at hl 2 rfl) ?_
                refine mg_ist (v := a1) hx hb hE hD hP hS 1 (yl_n hA (by decide)) rfl (40 * np) (by omega) (mi_mul rfl ((zr_ne (by decide)).trans hF.n)) (by decide) dX8_person_93 (fun H locs hP hS => ?_)
                refine lv_aload_n hx hb dX8_person_94 rfl (lv_at hl 1 rfl) ?_
                refine mg_ref hx hb hts in_X8 hown hE hP 0 (yl_n hA (by decide)) rfl rfl 1 rfl (by decide) (hts _ q765) (fun _ h9 => h9) dX8_person_95 ?_
                refine lv_bipush (v := 40) hx hb dX8_person_98 (by decide) ?_
                refine lv_aload_n hx hb dX8_person_100 rfl (lv_at hl 1 rfl) ?_
                refine mg_get hx hb hts in_X8 hown hE hP 0 (yl_n hA (by decide)) rfl rfl 0 rfl (by decide) (hts _ q764) (fun _ h9 => h9) dX8_person_101 ?_
                refine lv_rwi (mup_ne1 (by omega)) ?_
                refine lv_imul hx hb dX8_person_104 ?_
                refine lv_iconst (v := 1) hx hb dX8_person_105 (by decide) ?_
                refine lv_iadd hx hb dX8_person_106 ?_
                refine lv_iload_n hx hb dX8_person_107 rfl (lv_at hl 3 rfl) ?_
                refine mg_ist (v := a2) hx hb hE hD hP hS 1 (yl_n hA (by decide)) rfl (40 * np + 1) (by omega) (mi_add (mi_mul rfl ((zr_ne (by decide)).trans hF.n)) rfl) (by decide) dX8_person_108 (fun H locs hP hS => ?_)
                refine lv_aload_n hx hb dX8_person_109 rfl (lv_at hl 1 rfl) ?_
                refine mg_ref hx hb hts in_X8 hown hE hP 0 (yl_n hA (by decide)) rfl rfl 1 rfl (by decide) (hts _ q765) (fun _ h9 => h9) dX8_person_110 ?_
                refine lv_bipush (v := 40) hx hb dX8_person_113 (by decide) ?_
                refine lv_aload_n hx hb dX8_person_115 rfl (lv_at hl 1 rfl) ?_
                refine mg_get hx hb hts in_X8 hown hE hP 0 (yl_n hA (by decide)) rfl rfl 0 rfl (by decide) (hts _ q764) (fun _ h9 => h9) dX8_person_116 ?_
                refine lv_rwi ((mup_ne1 (by omega)).trans (mup_ne1 (by omega))) ?_
                refine lv_imul hx hb dX8_person_119 ?_
                refine lv_iconst (v := 2) hx hb dX8_person_120 (by decide) ?_
                refine lv_iadd hx hb dX8_person_121 ?_
                refine lv_iload_n hx hb dX8_person_122 rfl (lv_at hl 4 rfl) ?_
                refine mg_ist (v := a3) hx hb hE hD hP hS 1 (yl_n hA (by decide)) rfl (40 * np + 2) (by omega) (mi_add (mi_mul rfl ((zr_ne (by decide)).trans hF.n)) rfl) (by decide) dX8_person_123 (fun H locs hP hS => ?_)
                refine lv_aload_n hx hb dX8_person_124 rfl (lv_at hl 1 rfl) ?_
                refine mg_ref hx hb hts in_X8 hown hE hP 0 (yl_n hA (by decide)) rfl rfl 1 rfl (by decide) (hts _ q765) (fun _ h9 => h9) dX8_person_125 ?_
                refine lv_bipush (v := 40) hx hb dX8_person_128 (by decide) ?_
                refine lv_aload_n hx hb dX8_person_130 rfl (lv_at hl 1 rfl) ?_
                refine mg_get hx hb hts in_X8 hown hE hP 0 (yl_n hA (by decide)) rfl rfl 0 rfl (by decide) (hts _ q764) (fun _ h9 => h9) dX8_person_131 ?_
                refine lv_rwi ((mup_ne1 (by omega)).trans ((mup_ne1 (by omega)).trans (mup_ne1 (by omega)))) ?_
                refine lv_imul hx hb dX8_person_134 ?_
                refine lv_iconst (v := 4) hx hb dX8_person_135 (by decide) ?_
                refine lv_iadd hx hb dX8_person_136 ?_
                refine lv_bipush (v := (-4)) hx hb dX8_person_137 (by decide) ?_
                refine mg_ist (v := (-4)) hx hb hE hD hP hS 1 (yl_n hA (by decide)) rfl (40 * np + 4) (by omega) (mi_add (mi_mul rfl ((zr_ne (by decide)).trans hF.n)) rfl) (by decide) dX8_person_139 (fun H locs hP hS => ?_)
                refine lv_iconst (v := 0) hx hb dX8_person_140 (by decide) ?_
                refine lv_istore (lv' := [(4, .int 0), (0, .ref (ad 0)), (1, .int a1), (2, .int a2), (3, .int a3)]) hx hb dX8_person_141 hl (by decide) rfl (fun ls hl => ?_)
                have lp143 : ∀ (fu : Nat) (c : Nat) (_ : c ≤ 5) (_ : 5 - c < fu) (H : Heap) (locs : List Loc) (_ : va_P D xCl (mW dA (shM st) ad N (zrF (mup (mup (mup (mup (zrF σ 1 (40 * np) 40) 1 (40 * np) a1) 1 (40 * np + 1) a2) 1 (40 * np + 2) a3) 1 (40 * np + 4) (-4)) 3 (5 * np) c)) H) (_ : va_S (mAd ad N) ss.heap H locs) (ls : Array Slot) (_ : lv_has ls 5 [(4, .int (nI c)), (0, .ref (ad 0)), (1, .int a1), (2, .int a2), (3, .int a3)]), W pp l ee (headSpec (ws_ yX8_person cX8_person 5 (some .int)) ({ frames := 1, cells := 0, slots := 0, locals := 25 })).room ss mm ([.ref (ad 0), .int a1, .int a2, .int a3] : List Value).toArray below meth cd H locs 0 0 (MQ below (va_Qi (fun (r : Int32) (u : mMem) => (if ik a1 10000 then (if ik a2 100 then (if iv a3 1 60 then (if np = 5 then (r = -3 ∧ u = σ) else (r = nI np ∧ u = mup (zrF (mup (mup (mup (mup (zrF σ 1 (40 * np) 40) 1 (40 * np) a1) 1 (40 * np + 1) a2) 1 (40 * np + 2) a3) 1 (40 * np + 4) (-4)) 3 (5 * np) 5) 0 0 (nI (np + 1)))) else (r = -1 ∧ u = σ)) else (r = -1 ∧ u = σ)) else (r = -1 ∧ u = σ))) (mB D dA (shM st) ad N) (mAd ad N)) ([.ref (ad 0), .int a1, .int a2, .int a3] : List Value).toArray ss 0 0 (mAd ad N)) (F0 mm 143 ls []) := by
                  intro fu
                  induction fu with
                  | zero => intro c hc hfu; exact absurd hfu (Nat.not_lt_zero _)
                  | succ fu ih143 =>
                    intro c hc hfu H locs hP hS ls hl
                    refine lv_iload hx hb dX8_person_143 (lv_at hl 0 rfl) ?_
                    refine lv_iconst (v := 5) hx hb dX8_person_145 (by decide) ?_
                    refine lv_icmp_ge (tgt := 170) hx hb dX8_person_146 (by decide) (fun c_9 => ?_) (fun c_9 => ?_)
                    · have nc_9 : 5 ≤ c := mi_le rfl rfl (by omega) (by omega) c_9
                      refine lv_aload_n hx hb dX8_person_170 rfl (lv_at hl 1 rfl) ?_
                      refine lv_dup hx hb dX8_person_171 rfl ?_
                      refine mg_get hx hb hts in_X8 hown hE hP 0 (yl_n hA (by decide)) rfl rfl 0 rfl (by decide) (hts _ q764) (fun _ h9 => h9) dX8_person_172 ?_
                      refine lv_iconst (v := 1) hx hb dX8_person_175 (by decide) ?_
                      refine lv_iadd hx hb dX8_person_176 ?_
                      refine lv_rwi (mi_add ((zr_ne (by decide)).trans ((mup_ne1 (by decide)).trans ((mup_ne1 (by decide)).trans ((mup_ne1 (by decide)).trans ((mup_ne1 (by decide)).trans ((zr_ne (by decide)).trans hF.n)))))) rfl) ?_
                      refine mg_put (v := (nI (np + 1))) (ty := .int) hx hb hts in_X8 tyX8 tyX8_ok nmX8 hown hE hD hP hS 0 (yl_n hA (by decide)) rfl rfl 0 rfl (by decide) (hts _ q764) (fun _ h9 => h9) rfl (by decide +kernel) rfl rfl dX8_person_177 (fun H locs hP hS => ?_)
                      refine lv_aload_n hx hb dX8_person_180 rfl (lv_at hl 1 rfl) ?_
                      refine mg_get hx hb hts in_X8 hown hE hP 0 (yl_n hA (by decide)) rfl rfl 0 rfl (by decide) (hts _ q764) (fun _ h9 => h9) dX8_person_181 ?_
                      refine lv_rwi (mup_self _ _ _ _) ?_
                      refine lv_iconst (v := 1) hx hb dX8_person_184 (by decide) ?_
                      refine lv_isub hx hb dX8_person_185 ?_
                      exact W.iret (v := ((nI (np + 1)) - 1)) hx hb hr (fun t ht hW => ⟨⟨_, _, rfl, by dsimp only; rw [if_pos c_2, if_pos c_4, if_pos c_6, if_neg nc_7]; exact ⟨nI_pred np, by rw [show c = 5 by omega]⟩, mB.of ht hP⟩, hS.F ht⟩) hS.2.2 dX8_person_186
                    · have nc_9 : c < 5 := mi_nle rfl rfl (by omega) (by omega) c_9
                      refine lv_aload_n hx hb dX8_person_149 rfl (lv_at hl 1 rfl) ?_
                      refine mg_ref hx hb hts in_X8 hown hE hP 0 (yl_n hA (by decide)) rfl rfl 4 rfl (by decide) (hts _ q768) (fun _ h9 => h9) dX8_person_150 ?_
                      refine lv_iconst (v := 5) hx hb dX8_person_153 (by decide) ?_
                      refine lv_aload_n hx hb dX8_person_154 rfl (lv_at hl 1 rfl) ?_
                      refine mg_get hx hb hts in_X8 hown hE hP 0 (yl_n hA (by decide)) rfl rfl 0 rfl (by decide) (hts _ q764) (fun _ h9 => h9) dX8_person_155 ?_
                      refine lv_imul hx hb dX8_person_158 ?_
                      refine lv_iload hx hb dX8_person_159 (lv_at hl 0 rfl) ?_
                      refine lv_iadd hx hb dX8_person_161 ?_
                      refine lv_iconst (v := 0) hx hb dX8_person_162 (by decide) ?_
                      refine mg_ist (v := 0) hx hb hE hD hP hS 3 (yl_n hA (by decide)) rfl (5 * np + c) (by omega) (mi_add (mi_mul rfl ((zr_ne (by decide)).trans ((mup_ne1 (by decide)).trans ((mup_ne1 (by decide)).trans ((mup_ne1 (by decide)).trans ((mup_ne1 (by decide)).trans ((zr_ne (by decide)).trans hF.n))))))) rfl) (by decide) dX8_person_163 (fun H locs hP hS => ?_)
                      refine lv_iinc (v := (nI (c + 1))) (lv' := [(4, .int (nI (c + 1))), (0, .ref (ad 0)), (1, .int a1), (2, .int a2), (3, .int a3)]) hx hb dX8_person_164 hl (k := 0) rfl (mi_add rfl rfl) (by decide) rfl (fun ls hl => ?_)
                      refine lv_goto (tgt := 143) hx hb dX8_person_167 (by decide) ?_
                      exact ih143  (c + 1) (by omega) (by omega) _ _ (m_eq (rfl) hP) hS ls (lv_sub hl [0, 1, 2, 3, 4] rfl)
                exact lp143 (5 - 0 + 1) 0 (by omega) (by omega) _ _ (m_eq (by rw [show k = 40 by omega]; rfl) hP) hS ls (lv_sub hl [0, 1, 2, 3, 4] rfl)
              · have nc_8 : k < 40 := mi_nle rfl rfl (by omega) (by omega) c_8
                refine lv_aload_n hx hb dX8_person_59 rfl (lv_at hl 1 rfl) ?_
                refine mg_ref hx hb hts in_X8 hown hE hP 0 (yl_n hA (by decide)) rfl rfl 1 rfl (by decide) (hts _ q765) (fun _ h9 => h9) dX8_person_60 ?_
                refine lv_bipush (v := 40) hx hb dX8_person_63 (by decide) ?_
                refine lv_aload_n hx hb dX8_person_65 rfl (lv_at hl 1 rfl) ?_
                refine mg_get hx hb hts in_X8 hown hE hP 0 (yl_n hA (by decide)) rfl rfl 0 rfl (by decide) (hts _ q764) (fun _ h9 => h9) dX8_person_66 ?_
                refine lv_imul hx hb dX8_person_69 ?_
                refine lv_iload hx hb dX8_person_70 (lv_at hl 0 rfl) ?_
                refine lv_iadd hx hb dX8_person_72 ?_
                refine lv_iconst (v := 0) hx hb dX8_person_73 (by decide) ?_
                refine mg_ist (v := 0) hx hb hE hD hP hS 1 (yl_n hA (by decide)) rfl (40 * np + k) (by omega) (mi_add (mi_mul rfl ((zr_ne (by decide)).trans hF.n)) rfl) (by decide) dX8_person_74 (fun H locs hP hS => ?_)
                refine lv_iinc (v := (nI (k + 1))) (lv' := [(4, .int (nI (k + 1))), (0, .ref (ad 0)), (1, .int a1), (2, .int a2), (3, .int a3)]) hx hb dX8_person_75 hl (k := 0) rfl (mi_add rfl rfl) (by decide) rfl (fun ls hl => ?_)
                refine lv_goto (tgt := 52) hx hb dX8_person_78 (by decide) ?_
                exact ih52  (k + 1) (by omega) (by omega) _ _ (m_eq (rfl) hP) hS ls (lv_sub hl [0, 1, 2, 3, 4] rfl)
          exact lp52 (40 - 0 + 1) 0 (by omega) (by omega) _ _ (m_eq (rfl) hP) hS ls (lv_sub hl [0, 1, 2, 3, 4] rfl)
        · have nc_7 : np = 5 := mi_eq hF.n rfl (by omega) (by omega) c_7
          refine lv_bipush (v := (-3)) hx hb dX8_person_46 (by decide) ?_
          exact W.iret (v := (-3)) hx hb hr (fun t ht hW => ⟨⟨_, _, rfl, by dsimp only; rw [if_pos c_2, if_pos c_4, if_pos c_6, if_pos nc_7]; exact ⟨rfl, rfl⟩, mB.of ht hP⟩, hS.F ht⟩) hS.2.2 dX8_person_48
      · have c_6 : ¬ (iv a3 1 60) := bi_f c_6
        refine lv_iconst (v := (-1)) hx hb dX8_person_36 (by decide) ?_
        exact W.iret (v := (-1)) hx hb hr (fun t ht hW => ⟨⟨_, _, rfl, by dsimp only; rw [if_pos c_2, if_pos c_4, if_neg c_6]; exact ⟨rfl, rfl⟩, mB.of ht hP⟩, hS.F ht⟩) hS.2.2 dX8_person_37
set_option maxHeartbeats 4000000 in
set_option maxRecDepth 100000 in
theorem mt_X8_thickOf (l : Launch) (D : va_G) (dA : Nat → ClassId) (st : Nat) (hst : st = 1 ∨ st = 2) (ad : Nat → Nat) (N : Nat) (hA : yA ad N) (σ : mMem) (x : Int32) (p : Nat) (hx0 : x = nI p) (hp5 : p < 5) (n : Nat) (hn : σ st (40 * p + 3) = nI n) (hn8 : n ≤ 8) : Met l yX8_thickOf (ws_ yX8_thickOf cX8_thickOf 4 (some .int)) ({ frames := 0, cells := 0, slots := 0, locals := 0 }) (va_Pc [.ref (ad 0), .int x] (mPre D dA (shM st) ad N σ)) (vp_Si (fun r : Int32 => r = thk (fun k => σ st (40 * p + 8 + k)) n)) 0 0 (fun _ => False) := by
  refine Met.ofW (cc := cX8_thickOf) (maxL := 4) (ret := (some .int)) (by decide) rfl ?_
  intro pp ee ss mm args below meth cd s₁ B hml hv
  obtain ⟨rfl, hP, hE⟩ := hv
  have hx := B.exec
  have hb := B.bytes
  have hr := B.returns
  have hts := atoms_spec (ws := ws_ yX8_thickOf cX8_thickOf 4 (some .int)) B.pre
  have hts : ∀ w ∈ lw_all, w.before _ ss = true := fun w h => hts w (List.mem_cons_of_mem _ h)
  have hown : ss.vm.findClass RX8 = some mm.cls := findClass_of_methodNamed B.named
  have hlocks := B.notSynchronized
  have hNN := hA.1
  have hl := lv_entry ([.ref (ad 0), .int x]) (n := 4) (Nat.le_of_ble_eq_true rfl)
  rw [lg_entry_eq]
  generalize (lg_sl ([.ref (ad 0), .int x]) ++ List.replicate (4 - (lg_sl ([.ref (ad 0), .int x])).length) Slot.unset).toArray = ls at hl ⊢
  have hl : lv_has ls 4 [(0, .ref (ad 0)), (1, .int x)] := hl
  refine lv_iconst (v := 0) hx hb dX8_thickOf_0 (by decide) ?_
  refine lv_istore_n (lv' := [(2, .int 0), (0, .ref (ad 0)), (1, .int x)]) hx hb dX8_thickOf_1 rfl hl (by decide) rfl (fun ls hl => ?_)
  refine lv_iconst (v := 0) hx hb dX8_thickOf_2 (by decide) ?_
  refine lv_istore_n (lv' := [(3, .int 0), (2, .int 0), (0, .ref (ad 0)), (1, .int x)]) hx hb dX8_thickOf_3 rfl hl (by decide) rfl (fun ls hl => ?_)
  have lp4 : ∀ (fu : Nat) (c : Nat) (_ : c ≤ n) (_ : n - c < fu) (ls : Array Slot) (_ : lv_has ls 4 [(3, .int (nI c)), (2, .int (thk (fun k => σ st (40 * p + 8 + k)) c)), (0, .ref (ad 0)), (1, .int x)]), W pp l ee (headSpec (ws_ yX8_thickOf cX8_thickOf 4 (some .int)) ({ frames := 0, cells := 0, slots := 0, locals := 0 })).room ss mm ([.ref (ad 0), .int x] : List Value).toArray below meth cd ss.heap [] 0 0 (MQ below (vp_Si (fun r : Int32 => r = thk (fun k => σ st (40 * p + 8 + k)) n)) ([.ref (ad 0), .int x] : List Value).toArray ss 0 0 (fun _ => False)) (F0 mm 4 ls []) := by
    intro fu
    induction fu with
    | zero => intro c hc hfu; exact absurd hfu (Nat.not_lt_zero _)
    | succ fu ih4 =>
      intro c hc hfu ls hl
      refine lv_iload_n hx hb dX8_thickOf_4 rfl (lv_at hl 0 rfl) ?_
      refine lv_aload_n hx hb dX8_thickOf_5 rfl (lv_at hl 2 rfl) ?_
      refine mg_ref hx hb hts in_X8 hown hE hP 0 (yl_n hA (by decide)) rfl rfl 3 rfl (by decide) (hts _ q767) (fun _ h9 => h9) dX8_thickOf_6 ?_
      refine lv_bipush (v := 40) hx hb dX8_thickOf_9 (by decide) ?_
      refine lv_iload_n hx hb dX8_thickOf_11 rfl (lv_at hl 3 rfl) ?_
      refine lv_imul hx hb dX8_thickOf_12 ?_
      refine lv_iconst (v := 3) hx hb dX8_thickOf_13 (by decide) ?_
      refine lv_iadd hx hb dX8_thickOf_14 ?_
      refine mg_ild hx hb hE hP st (yl_st hA hst) (shM_st hst _) (40 * p + 3) (by omega) (mi_add (mi_mul rfl hx0) rfl) (by decide) dX8_thickOf_15 ?_
      refine lv_icmp_ge (tgt := 46) hx hb dX8_thickOf_16 (by decide) (fun c_1 => ?_) (fun c_1 => ?_)
      · have nc_1 : n ≤ c := mi_le hn rfl (by omega) (by omega) c_1
        refine lv_iload_n hx hb dX8_thickOf_46 rfl (lv_at hl 1 rfl) ?_
        exact W.iret (v := (thk (fun k => σ st (40 * p + 8 + k)) c)) hx hb hr (fun t ht hW => ⟨_, rfl, by rw [show c = n by omega], ht⟩) (fun q hq => by cases hq) dX8_thickOf_47
      · have nc_1 : c < n := mi_nle hn rfl (by omega) (by omega) c_1
        refine lv_iload_n hx hb dX8_thickOf_19 rfl (lv_at hl 1 rfl) ?_
        refine lv_aload_n hx hb dX8_thickOf_20 rfl (lv_at hl 2 rfl) ?_
        refine mg_ref hx hb hts in_X8 hown hE hP 0 (yl_n hA (by decide)) rfl rfl 3 rfl (by decide) (hts _ q767) (fun _ h9 => h9) dX8_thickOf_21 ?_
        refine lv_bipush (v := 40) hx hb dX8_thickOf_24 (by decide) ?_
        refine lv_iload_n hx hb dX8_thickOf_26 rfl (lv_at hl 3 rfl) ?_
        refine lv_imul hx hb dX8_thickOf_27 ?_
        refine lv_bipush (v := 8) hx hb dX8_thickOf_28 (by decide) ?_
        refine lv_iadd hx hb dX8_thickOf_30 ?_
        refine lv_iconst (v := 4) hx hb dX8_thickOf_31 (by decide) ?_
        refine lv_iload_n hx hb dX8_thickOf_32 rfl (lv_at hl 0 rfl) ?_
        refine lv_imul hx hb dX8_thickOf_33 ?_
        refine lv_iadd hx hb dX8_thickOf_34 ?_
        refine lv_iconst (v := 3) hx hb dX8_thickOf_35 (by decide) ?_
        refine lv_iadd hx hb dX8_thickOf_36 ?_
        refine mg_ild hx hb hE hP st (yl_st hA hst) (shM_st hst _) (40 * p + 8 + 4 * c + 3) (by omega) (mi_add (mi_add (mi_add (mi_mul rfl hx0) rfl) (mi_mul rfl rfl)) rfl) (by decide) dX8_thickOf_37 ?_
        refine lv_iadd hx hb dX8_thickOf_38 ?_
        refine lv_istore_n (lv' := [(2, .int ((thk (fun k => σ st (40 * p + 8 + k)) c) + σ st (40 * p + 8 + 4 * c + 3))), (3, .int (nI c)), (0, .ref (ad 0)), (1, .int x)]) hx hb dX8_thickOf_39 rfl hl (by decide) rfl (fun ls hl => ?_)
        refine lv_iinc (v := (nI (c + 1))) (lv' := [(3, .int (nI (c + 1))), (2, .int ((thk (fun k => σ st (40 * p + 8 + k)) c) + σ st (40 * p + 8 + 4 * c + 3))), (0, .ref (ad 0)), (1, .int x)]) hx hb dX8_thickOf_40 hl (k := 1) rfl (mi_add rfl rfl) (by decide) rfl (fun ls hl => ?_)
        refine lv_goto (tgt := 4) hx hb dX8_thickOf_43 (by decide) ?_
        exact ih4  (c + 1) (by omega) (by omega) ls (lv_sub hl [0, 1, 2, 3] rfl)
  exact lp4 (n - 0 + 1) 0 (by omega) (by omega) ls (lv_sub hl [0, 1, 2, 3] rfl)
set_option maxHeartbeats 4000000 in
set_option maxRecDepth 100000 in
theorem mt_X8_of (l : Launch) (D : va_G) (dA : Nat → ClassId) (st : Nat) (hst : st = 1 ∨ st = 2) (ad : Nat → Nat) (N : Nat) (hA : yA ad N) (σ : mMem) (p a : Int32) (np : Nat) (nc : Nat → Nat) (ld : Nat → Nat → Nat) (hF : yFk σ 1 np nc ld) : Met l yX8_of (ws_ yX8_of cX8_of 5 (some .int)) ({ frames := 2, cells := 0, slots := 0, locals := 46 }) (va_Pc [.ref (ad 0), .int p, .int a] (mPre D dA (shM st) ad N σ)) (va_Qi (fun (r : Int32) (u : mMem × Nat) => (if ik p np then (if ik a 7 then (r = ofM σ (tn p) (nc (tn p)) (tn a) ∧ u = (σ, 1)) else (r = -1 ∧ u = (σ, 1))) else (r = -1 ∧ u = (σ, 1)))) (mBM D dA ad N) (mAd ad N)) 0 0 (mAd ad N) := by
  refine Met.ofW (cc := cX8_of) (maxL := 5) (ret := (some .int)) (by decide) rfl ?_
  intro pp ee ss mm args below meth cd s₁ B hml hv
  obtain ⟨rfl, hP, hE⟩ := hv
  have hx := B.exec
  have hb := B.bytes
  have hr := B.returns
  have hts := atoms_spec (ws := ws_ yX8_of cX8_of 5 (some .int)) B.pre
  have hts : ∀ w ∈ lw_all, w.before _ ss = true := fun w h => hts w (List.mem_cons_of_mem _ h)
  have hown : ss.vm.findClass RX8 = some mm.cls := findClass_of_methodNamed B.named
  have hlocks := B.notSynchronized
  have hD := hA.2.self
  have hS : va_S (mAd ad N) ss.heap ss.heap [] := va_S.rf
  have hNN := hA.1
  have hn5 := hF.n5
  have hl := lv_entry ([.ref (ad 0), .int p, .int a]) (n := 5) (Nat.le_of_ble_eq_true rfl)
  rw [lg_entry_eq]
  generalize (lg_sl ([.ref (ad 0), .int p, .int a]) ++ List.replicate (5 - (lg_sl ([.ref (ad 0), .int p, .int a])).length) Slot.unset).toArray = ls at hl ⊢
  have hl : lv_has ls 5 [(0, .ref (ad 0)), (1, .int p), (2, .int a)] := hl
  refine lv_aload_n hx hb dX8_of_0 rfl (lv_at hl 0 rfl) ?_
  refine lv_aload_n hx hb dX8_of_1 rfl (lv_at hl 0 rfl) ?_
  refine mg_ref hx hb hts in_X8 hown hE hP 0 (yl_n hA (by decide)) rfl rfl 1 rfl (by decide) (hts _ q765) (fun _ h9 => h9) dX8_of_2 ?_
  refine mg_state (j := 1) hx hb hts hown hE hD hP hS hA.1 (hts _ q767) dX8_of_5 (fun H locs hP hS => ?_)
  refine lv_aload_n hx hb dX8_of_8 rfl (lv_at hl 0 rfl) ?_
  refine lv_iload_n hx hb dX8_of_9 rfl (lv_at hl 1 rfl) ?_
  refine vp_callSi (W.runV (As := [.int p]) (rest := []) ⟨hx, hb, hml, hown, hts⟩ (mt_X8_isOne l D dA 1 (Or.inl rfl) ad N hA σ p np hF.n hF.n5) (cwV 1 hts (lw_V q863 q865 qs20 q55 q866) rfl rfl rfl (by decide +kernel) ⟨Nat.le_of_ble_eq_true rfl, Nat.le_of_ble_eq_true rfl⟩) ⟨mPre.blind, m_recv hE hP 0 (yl_n hA (by decide)) rfl rfl, mPre.at hE hP⟩ rfl rfl hl.1 rfl (lv_room (Nat.le_of_ble_eq_true rfl)) dX8_of_10 ⟨Nat.le_of_ble_eq_true rfl, Nat.le_of_ble_eq_true rfl⟩) (fun r_1 hr_1 => ?_)
  subst hr_1
  refine lv_if_eq (tgt := 28) hx hb dX8_of_13 (by decide) (fun c_2 => ?_) (fun c_2 => ?_)
  · have c_2 : ¬ (ik p np) := bi_f c_2
    refine lv_iconst (v := (-1)) hx hb dX8_of_28 (by decide) ?_
    exact W.iret (v := (-1)) hx hb hr (fun t ht hW => ⟨⟨_, (σ, 1), rfl, by dsimp only; rw [if_neg c_2]; exact ⟨rfl, rfl⟩, mBM.of ht hP⟩, hS.F ht⟩) hS.2.2 dX8_of_29
  · have c_2 : ik p np := bi_t c_2
    have c_2_lt := ik_lt c_2
    have c_2_m := hF.m c_2_lt
    have c_2_8 := hF.m8 c_2_lt
    refine lv_iload_n hx hb dX8_of_16 rfl (lv_at hl 2 rfl) ?_
    refine lv_i2l (v := a.toInt64) hx hb dX8_of_17 rfl ?_
    refine lv_lconst (v := 0) hx hb dX8_of_18 (by decide) ?_
    refine lv_ldc2 hx hb hown (hts _ q867) dX8_of_19 ?_
    refine vp_callSi (W.runS (As := [.long a.toInt64, .long 0, .long 6]) (rest := []) ⟨hx, hb, hml, hown, hts⟩ (mt_X8_in l a.toInt64 0 6) (va_cwS 3 hts (lw_S q854 q855 q55 q856) rfl rfl rfl (by decide +kernel) ⟨Nat.le_of_ble_eq_true rfl, Nat.le_of_ble_eq_true rfl⟩) ⟨fun _ _ _ _ h => h, fun _ _ _ => ⟨rfl, trivial⟩⟩ rfl rfl hl.1 rfl (lv_room (Nat.le_of_ble_eq_true rfl)) dX8_of_22 ⟨Nat.le_of_ble_eq_true rfl, Nat.le_of_ble_eq_true rfl⟩) (fun r_3 hr_3 => ?_)
    subst hr_3
    refine lv_rwi (bi_c (lik_of (n := 7) rfl rfl)) ?_
    refine lv_if_ne (tgt := 30) hx hb dX8_of_25 (by decide) (fun c_4 => ?_) (fun c_4 => ?_)
    · have c_4 : ik a 7 := bi_t c_4
      have c_4_lt := ik_lt c_4
      refine lv_iconst (v := 0) hx hb dX8_of_30 (by decide) ?_
      refine lv_istore_n (lv' := [(3, .int 0), (0, .ref (ad 0)), (1, .int p), (2, .int a)]) hx hb dX8_of_31 rfl hl (by decide) rfl (fun ls hl => ?_)
      refine lv_iconst (v := 0) hx hb dX8_of_32 (by decide) ?_
      refine lv_istore (lv' := [(4, .int 0), (3, .int 0), (0, .ref (ad 0)), (1, .int p), (2, .int a)]) hx hb dX8_of_33 hl (by decide) rfl (fun ls hl => ?_)
      have lp35 : ∀ (fu : Nat) (c : Nat) (_ : c ≤ nc (tn p)) (_ : nc (tn p) - c < fu) (ls : Array Slot) (_ : lv_has ls 5 [(4, .int (nI c)), (3, .int (sam (fun k => σ 1 (40 * (tn p) + 8 + k)) c)), (0, .ref (ad 0)), (1, .int p), (2, .int a)]), W pp l ee (headSpec (ws_ yX8_of cX8_of 5 (some .int)) ({ frames := 2, cells := 0, slots := 0, locals := 46 })).room ss mm ([.ref (ad 0), .int p, .int a] : List Value).toArray below meth cd H locs 0 0 (MQ below (va_Qi (fun (r : Int32) (u : mMem × Nat) => (if ik p np then (if ik a 7 then (r = ofM σ (tn p) (nc (tn p)) (tn a) ∧ u = (σ, 1)) else (r = -1 ∧ u = (σ, 1))) else (r = -1 ∧ u = (σ, 1)))) (mBM D dA ad N) (mAd ad N)) ([.ref (ad 0), .int p, .int a] : List Value).toArray ss 0 0 (mAd ad N)) (F0 mm 35 ls []) := by
        intro fu
        induction fu with
        | zero => intro c hc hfu; exact absurd hfu (Nat.not_lt_zero _)
        | succ fu ih35 =>
          intro c hc hfu ls hl
          refine lv_iload hx hb dX8_of_35 (lv_at hl 0 rfl) ?_
          refine lv_aload_n hx hb dX8_of_37 rfl (lv_at hl 2 rfl) ?_
          refine mg_ref hx hb hts in_X8 hown hE hP 0 (yl_n hA (by decide)) rfl rfl 1 rfl (by decide) (hts _ q765) (fun _ h9 => h9) dX8_of_38 ?_
          refine lv_bipush (v := 40) hx hb dX8_of_41 (by decide) ?_
          refine lv_iload_n hx hb dX8_of_43 rfl (lv_at hl 3 rfl) ?_
          refine lv_imul hx hb dX8_of_44 ?_
          refine lv_iconst (v := 3) hx hb dX8_of_45 (by decide) ?_
          refine lv_iadd hx hb dX8_of_46 ?_
          refine mg_ild hx hb hE hP 1 (yl_n hA (by decide)) rfl (40 * (tn p) + 3) (by omega) (mi_add (mi_mul rfl (ik_eq c_2)) rfl) (by decide) dX8_of_47 ?_
          refine lv_icmp_ge (tgt := 79) hx hb dX8_of_48 (by decide) (fun c_5 => ?_) (fun c_5 => ?_)
          · have nc_5 : nc (tn p) ≤ c := mi_le c_2_m rfl (by omega) (by omega) c_5
            have hcn : c = nc (tn p) := by omega
            refine lv_iload_n hx hb dX8_of_79 rfl (lv_at hl 4 rfl) ?_
            refine lv_iconst (v := 4) hx hb dX8_of_80 (by decide) ?_
            refine lv_icmp_ge (tgt := 98) hx hb dX8_of_81 (by decide) (fun c_6 => ?_) (fun c_6 => ?_)
            · have nc_6 : 4 ≤ tn a := mi_le rfl (ik_eq c_4) (by omega) (by omega) c_6
              refine lv_iload_n hx hb dX8_of_98 rfl (lv_at hl 4 rfl) ?_
              refine lv_iconst (v := 4) hx hb dX8_of_99 (by decide) ?_
              refine lv_icmp_ne (tgt := 111) hx hb dX8_of_100 (by decide) (fun c_7 => ?_) (fun c_7 => ?_)
              · have nc_7 : tn a ≠ 4 := mi_ne (ik_eq c_4) rfl (by omega) (by omega) c_7
                refine lv_iload_n hx hb dX8_of_111 rfl (lv_at hl 4 rfl) ?_
                refine lv_iconst (v := 5) hx hb dX8_of_112 (by decide) ?_
                refine lv_icmp_ne (tgt := 131) hx hb dX8_of_113 (by decide) (fun c_8 => ?_) (fun c_8 => ?_)
                · have nc_8 : tn a ≠ 5 := mi_ne (ik_eq c_4) rfl (by omega) (by omega) c_8
                  refine lv_aload_n hx hb dX8_of_131 rfl (lv_at hl 2 rfl) ?_
                  refine mg_ref hx hb hts in_X8 hown hE hP 0 (yl_n hA (by decide)) rfl rfl 1 rfl (by decide) (hts _ q765) (fun _ h9 => h9) dX8_of_132 ?_
                  refine lv_bipush (v := 40) hx hb dX8_of_135 (by decide) ?_
                  refine lv_iload_n hx hb dX8_of_137 rfl (lv_at hl 3 rfl) ?_
                  refine lv_imul hx hb dX8_of_138 ?_
                  refine lv_iconst (v := 4) hx hb dX8_of_139 (by decide) ?_
                  refine lv_iadd hx hb dX8_of_140 ?_
                  refine mg_ild hx hb hE hP 1 (yl_n hA (by decide)) rfl (40 * (tn p) + 4) (by omega) (mi_add (mi_mul rfl (ik_eq c_2)) rfl) (by decide) dX8_of_141 ?_
                  exact W.iret (v := σ 1 (40 * (tn p) + 4)) hx hb hr (fun t ht hW => ⟨⟨_, (σ, 1), rfl, by dsimp only; rw [if_pos c_2, if_pos c_4, ← hcn, ofM, if_neg (by omega), if_neg (by omega), if_neg (by omega)]; exact ⟨rfl, rfl⟩, mBM.of ht hP⟩, hS.F ht⟩) hS.2.2 dX8_of_142
                · have nc_8 : tn a = 5 := mi_eq (ik_eq c_4) rfl (by omega) (by omega) c_8
                  refine lv_iload_n hx hb dX8_of_116 rfl (lv_at hl 1 rfl) ?_
                  refine lv_ldc hx hb hown (hts _ q872) dX8_of_117 ?_
                  refine lv_icmp_le (tgt := 127) hx hb dX8_of_119 (by decide) (fun c_9 => ?_) (fun c_9 => ?_)
                  · skip
                    refine lv_iload_n hx hb dX8_of_127 rfl (lv_at hl 1 rfl) ?_
                    refine lv_goto (tgt := 142) hx hb dX8_of_128 (by decide) ?_
                    exact W.iret (v := (sam (fun k => σ 1 (40 * (tn p) + 8 + k)) c)) hx hb hr (fun t ht hW => ⟨⟨_, (σ, 1), rfl, by dsimp only; rw [if_pos c_2, if_pos c_4, ← hcn, ofM, if_neg (by omega), if_neg (by omega), if_pos (by omega), if_pos c_9]; exact ⟨rfl, rfl⟩, mBM.of ht hP⟩, hS.F ht⟩) hS.2.2 dX8_of_142
                  · skip
                    refine lv_ldc hx hb hown (hts _ q872) dX8_of_122 ?_
                    refine lv_goto (tgt := 142) hx hb dX8_of_124 (by decide) ?_
                    exact W.iret (v := 9999999) hx hb hr (fun t ht hW => ⟨⟨_, (σ, 1), rfl, by dsimp only; rw [if_pos c_2, if_pos c_4, ← hcn, ofM, if_neg (by omega), if_neg (by omega), if_pos (by omega), if_neg c_9]; exact ⟨rfl, rfl⟩, mBM.of ht hP⟩, hS.F ht⟩) hS.2.2 dX8_of_142
              · have nc_7 : tn a = 4 := mi_eq (ik_eq c_4) rfl (by omega) (by omega) c_7
                refine lv_aload_n hx hb dX8_of_103 rfl (lv_at hl 2 rfl) ?_
                refine lv_iload_n hx hb dX8_of_104 rfl (lv_at hl 3 rfl) ?_
                refine vp_callSi (W.runV (As := [.int p]) (rest := []) ⟨hx, hb, hml, hown, hts⟩ (mt_X8_thickOf l D dA 1 (Or.inl rfl) ad N hA σ p (tn p) (ik_eq c_2) (by omega) (nc (tn p)) c_2_m (by omega)) (cwV 1 hts (lw_V q868 q870 qs21 q55 q871) rfl rfl rfl (by decide +kernel) ⟨Nat.le_of_ble_eq_true rfl, Nat.le_of_ble_eq_true rfl⟩) ⟨mPre.blind, m_recv hE hP 0 (yl_n hA (by decide)) rfl rfl, mPre.at hE hP⟩ rfl rfl hl.1 rfl (lv_room (Nat.le_of_ble_eq_true rfl)) dX8_of_105 ⟨Nat.le_of_ble_eq_true rfl, Nat.le_of_ble_eq_true rfl⟩) (fun r_10 hr_10 => ?_)
                subst hr_10
                refine lv_goto (tgt := 142) hx hb dX8_of_108 (by decide) ?_
                exact W.iret (v := (thk (fun k => σ 1 (40 * (tn p) + 8 + k)) (nc (tn p)))) hx hb hr (fun t ht hW => ⟨⟨_, (σ, 1), rfl, by dsimp only; rw [if_pos c_2, if_pos c_4, ← hcn, ofM, if_neg (by omega), if_pos (by omega)]; exact ⟨rfl, rfl⟩, mBM.of ht hP⟩, hS.F ht⟩) hS.2.2 dX8_of_142
            · have nc_6 : tn a < 4 := mi_nle rfl (ik_eq c_4) (by omega) (by omega) c_6
              refine lv_aload_n hx hb dX8_of_84 rfl (lv_at hl 2 rfl) ?_
              refine mg_ref hx hb hts in_X8 hown hE hP 0 (yl_n hA (by decide)) rfl rfl 1 rfl (by decide) (hts _ q765) (fun _ h9 => h9) dX8_of_85 ?_
              refine lv_bipush (v := 40) hx hb dX8_of_88 (by decide) ?_
              refine lv_iload_n hx hb dX8_of_90 rfl (lv_at hl 3 rfl) ?_
              refine lv_imul hx hb dX8_of_91 ?_
              refine lv_iload_n hx hb dX8_of_92 rfl (lv_at hl 4 rfl) ?_
              refine lv_iadd hx hb dX8_of_93 ?_
              refine mg_ild hx hb hE hP 1 (yl_n hA (by decide)) rfl (40 * (tn p) + tn a) (by omega) (mi_add (mi_mul rfl (ik_eq c_2)) (ik_eq c_4)) (by decide) dX8_of_94 ?_
              refine lv_goto (tgt := 142) hx hb dX8_of_95 (by decide) ?_
              exact W.iret (v := σ 1 (40 * (tn p) + tn a)) hx hb hr (fun t ht hW => ⟨⟨_, (σ, 1), rfl, by dsimp only; rw [if_pos c_2, if_pos c_4, ← hcn, ofM, if_pos (by omega)]; exact ⟨rfl, rfl⟩, mBM.of ht hP⟩, hS.F ht⟩) hS.2.2 dX8_of_142
          · have nc_5 : c < nc (tn p) := mi_nle c_2_m rfl (by omega) (by omega) c_5
            refine lv_iload_n hx hb dX8_of_51 rfl (lv_at hl 1 rfl) ?_
            refine lv_aload_n hx hb dX8_of_52 rfl (lv_at hl 2 rfl) ?_
            refine mg_ref hx hb hts in_X8 hown hE hP 0 (yl_n hA (by decide)) rfl rfl 1 rfl (by decide) (hts _ q765) (fun _ h9 => h9) dX8_of_53 ?_
            refine lv_bipush (v := 40) hx hb dX8_of_56 (by decide) ?_
            refine lv_iload_n hx hb dX8_of_58 rfl (lv_at hl 3 rfl) ?_
            refine lv_imul hx hb dX8_of_59 ?_
            refine lv_bipush (v := 8) hx hb dX8_of_60 (by decide) ?_
            refine lv_iadd hx hb dX8_of_62 ?_
            refine lv_iconst (v := 4) hx hb dX8_of_63 (by decide) ?_
            refine lv_iload hx hb dX8_of_64 (lv_at hl 0 rfl) ?_
            refine lv_imul hx hb dX8_of_66 ?_
            refine lv_iadd hx hb dX8_of_67 ?_
            refine lv_iconst (v := 1) hx hb dX8_of_68 (by decide) ?_
            refine lv_iadd hx hb dX8_of_69 ?_
            refine mg_ild hx hb hE hP 1 (yl_n hA (by decide)) rfl (40 * (tn p) + 8 + 4 * c + 1) (by omega) (mi_add (mi_add (mi_add (mi_mul rfl (ik_eq c_2)) rfl) (mi_mul rfl rfl)) rfl) (by decide) dX8_of_70 ?_
            refine lv_iadd hx hb dX8_of_71 ?_
            refine lv_istore_n (lv' := [(3, .int ((sam (fun k => σ 1 (40 * (tn p) + 8 + k)) c) + σ 1 (40 * (tn p) + 8 + 4 * c + 1))), (4, .int (nI c)), (0, .ref (ad 0)), (1, .int p), (2, .int a)]) hx hb dX8_of_72 rfl hl (by decide) rfl (fun ls hl => ?_)
            refine lv_iinc (v := (nI (c + 1))) (lv' := [(4, .int (nI (c + 1))), (3, .int ((sam (fun k => σ 1 (40 * (tn p) + 8 + k)) c) + σ 1 (40 * (tn p) + 8 + 4 * c + 1))), (0, .ref (ad 0)), (1, .int p), (2, .int a)]) hx hb dX8_of_73 hl (k := 1) rfl (mi_add rfl rfl) (by decide) rfl (fun ls hl => ?_)
            refine lv_goto (tgt := 35) hx hb dX8_of_76 (by decide) ?_
            exact ih35  (c + 1) (by omega) (by omega) ls (lv_sub hl [0, 1, 2, 3, 4] rfl)
      exact lp35 (nc (tn p) - 0 + 1) 0 (by omega) (by omega) ls (lv_sub hl [0, 1, 2, 3, 4] rfl)
    · have c_4 : ¬ (ik a 7) := bi_f c_4
      refine lv_iconst (v := (-1)) hx hb dX8_of_28 (by decide) ?_
      exact W.iret (v := (-1)) hx hb hr (fun t ht hW => ⟨⟨_, (σ, 1), rfl, by dsimp only; rw [if_pos c_2, if_neg c_4]; exact ⟨rfl, rfl⟩, mBM.of ht hP⟩, hS.F ht⟩) hS.2.2 dX8_of_29
set_option maxHeartbeats 4000000 in
set_option maxRecDepth 100000 in
theorem mt_X8_coat (l : Launch) (D : va_G) (dA : Nat → ClassId) (st : Nat) (hst : st = 1 ∨ st = 2) (ad : Nat → Nat) (N : Nat) (hA : yA ad N) (σ : mMem) (p c a : Int32) (np : Nat) (nc : Nat → Nat) (ld : Nat → Nat → Nat) (hF : yFk σ 1 np nc ld) : Met l yX8_coat (ws_ yX8_coat cX8_coat 4 (some .int)) ({ frames := 3, cells := 0, slots := 0, locals := 68 }) (va_Pc [.ref (ad 0), .int p, .int c, .int a] (mPre D dA (shM st) ad N σ)) (vp_Si (fun r : Int32 => r = (if ik p np ∧ ik c (nc (tn p)) then (if ik a 4 then σ 1 (40 * tn p + 8 + 4 * tn c + tn a) else -1) else -1))) 0 0 (fun _ => False) := by
  refine Met.ofW (cc := cX8_coat) (maxL := 4) (ret := (some .int)) (by decide) rfl ?_
  intro pp ee ss mm args below meth cd s₁ B hml hv
  obtain ⟨rfl, hP, hE⟩ := hv
  have hx := B.exec
  have hb := B.bytes
  have hr := B.returns
  have hts := atoms_spec (ws := ws_ yX8_coat cX8_coat 4 (some .int)) B.pre
  have hts : ∀ w ∈ lw_all, w.before _ ss = true := fun w h => hts w (List.mem_cons_of_mem _ h)
  have hown : ss.vm.findClass RX8 = some mm.cls := findClass_of_methodNamed B.named
  have hlocks := B.notSynchronized
  have hNN := hA.1
  have hn5 := hF.n5
  have hl := lv_entry ([.ref (ad 0), .int p, .int c, .int a]) (n := 4) (Nat.le_of_ble_eq_true rfl)
  rw [lg_entry_eq]
  generalize (lg_sl ([.ref (ad 0), .int p, .int c, .int a]) ++ List.replicate (4 - (lg_sl ([.ref (ad 0), .int p, .int c, .int a])).length) Slot.unset).toArray = ls at hl ⊢
  have hl : lv_has ls 4 [(0, .ref (ad 0)), (1, .int p), (2, .int c), (3, .int a)] := hl
  refine lv_aload_n hx hb dX8_coat_0 rfl (lv_at hl 0 rfl) ?_
  refine lv_iload_n hx hb dX8_coat_1 rfl (lv_at hl 1 rfl) ?_
  refine lv_iload_n hx hb dX8_coat_2 rfl (lv_at hl 2 rfl) ?_
  refine vp_callSi (W.runV (As := [.int p, .int c]) (rest := []) ⟨hx, hb, hml, hown, hts⟩ (mt_X8_isCoat l D dA st hst ad N hA σ p c np nc ld hF) (cwV 2 hts (lw_V q877 q879 qs22 q55 q880) rfl rfl rfl (by decide +kernel) ⟨Nat.le_of_ble_eq_true rfl, Nat.le_of_ble_eq_true rfl⟩) ⟨mPre.blind, m_recv hE hP 0 (yl_n hA (by decide)) rfl rfl, mPre.at hE hP⟩ rfl rfl hl.1 rfl (lv_room (Nat.le_of_ble_eq_true rfl)) dX8_coat_3 ⟨Nat.le_of_ble_eq_true rfl, Nat.le_of_ble_eq_true rfl⟩) (fun r_1 hr_1 => ?_)
  subst hr_1
  refine lv_if_eq (tgt := 42) hx hb dX8_coat_6 (by decide) (fun c_2 => ?_) (fun c_2 => ?_)
  · have c_2 : ¬ (ik p np ∧ ik c (nc (tn p))) := bi_f c_2
    refine lv_iconst (v := (-1)) hx hb dX8_coat_42 (by decide) ?_
    exact W.iret (v := (-1)) hx hb hr (fun t ht hW => ⟨_, rfl, by dsimp only; rw [if_neg c_2], ht⟩) (fun q hq => by cases hq) dX8_coat_43
  · have c_2 : ik p np ∧ ik c (nc (tn p)) := bi_t c_2
    obtain ⟨c_2_0, c_2_1⟩ := id c_2
    have c_2_0_lt := ik_lt c_2_0
    have c_2_0_m := hF.m c_2_0_lt
    have c_2_0_8 := hF.m8 c_2_0_lt
    have c_2_1_lt := ik_lt c_2_1
    refine lv_iload_n hx hb dX8_coat_9 rfl (lv_at hl 3 rfl) ?_
    refine lv_i2l (v := a.toInt64) hx hb dX8_coat_10 rfl ?_
    refine lv_lconst (v := 0) hx hb dX8_coat_11 (by decide) ?_
    refine lv_ldc2 hx hb hown (hts _ q881) dX8_coat_12 ?_
    refine vp_callSi (W.runS (As := [.long a.toInt64, .long 0, .long 3]) (rest := []) ⟨hx, hb, hml, hown, hts⟩ (mt_X8_in l a.toInt64 0 3) (va_cwS 3 hts (lw_S q854 q855 q55 q856) rfl rfl rfl (by decide +kernel) ⟨Nat.le_of_ble_eq_true rfl, Nat.le_of_ble_eq_true rfl⟩) ⟨fun _ _ _ _ h => h, fun _ _ _ => ⟨rfl, trivial⟩⟩ rfl rfl hl.1 rfl (lv_room (Nat.le_of_ble_eq_true rfl)) dX8_coat_15 ⟨Nat.le_of_ble_eq_true rfl, Nat.le_of_ble_eq_true rfl⟩) (fun r_3 hr_3 => ?_)
    subst hr_3
    refine lv_rwi (bi_c (lik_of (n := 4) rfl rfl)) ?_
    refine lv_if_eq (tgt := 42) hx hb dX8_coat_18 (by decide) (fun c_4 => ?_) (fun c_4 => ?_)
    · have c_4 : ¬ (ik a 4) := bi_f c_4
      refine lv_iconst (v := (-1)) hx hb dX8_coat_42 (by decide) ?_
      exact W.iret (v := (-1)) hx hb hr (fun t ht hW => ⟨_, rfl, by dsimp only; rw [if_pos c_2, if_neg c_4], ht⟩) (fun q hq => by cases hq) dX8_coat_43
    · have c_4 : ik a 4 := bi_t c_4
      have c_4_lt := ik_lt c_4
      refine lv_aload_n hx hb dX8_coat_21 rfl (lv_at hl 0 rfl) ?_
      refine mg_ref hx hb hts in_X8 hown hE hP 0 (yl_n hA (by decide)) rfl rfl 1 rfl (by decide) (hts _ q765) (fun _ h9 => h9) dX8_coat_22 ?_
      refine lv_bipush (v := 40) hx hb dX8_coat_25 (by decide) ?_
      refine lv_iload_n hx hb dX8_coat_27 rfl (lv_at hl 1 rfl) ?_
      refine lv_imul hx hb dX8_coat_28 ?_
      refine lv_bipush (v := 8) hx hb dX8_coat_29 (by decide) ?_
      refine lv_iadd hx hb dX8_coat_31 ?_
      refine lv_iconst (v := 4) hx hb dX8_coat_32 (by decide) ?_
      refine lv_iload_n hx hb dX8_coat_33 rfl (lv_at hl 2 rfl) ?_
      refine lv_imul hx hb dX8_coat_34 ?_
      refine lv_iadd hx hb dX8_coat_35 ?_
      refine lv_iload_n hx hb dX8_coat_36 rfl (lv_at hl 3 rfl) ?_
      refine lv_iadd hx hb dX8_coat_37 ?_
      refine mg_ild hx hb hE hP 1 (yl_n hA (by decide)) rfl (40 * (tn p) + 8 + 4 * (tn c) + tn a) (by omega) (mi_add (mi_add (mi_add (mi_mul rfl (ik_eq c_2_0)) rfl) (mi_mul rfl (ik_eq c_2_1))) (ik_eq c_4)) (by decide) dX8_coat_38 ?_
      refine lv_goto (tgt := 43) hx hb dX8_coat_39 (by decide) ?_
      exact W.iret (v := σ 1 (40 * (tn p) + 8 + 4 * (tn c) + tn a)) hx hb hr (fun t ht hW => ⟨_, rfl, by dsimp only; rw [if_pos c_2, if_pos c_4], ht⟩) (fun q hq => by cases hq) dX8_coat_43
set_option maxHeartbeats 4000000 in
set_option maxRecDepth 100000 in
theorem mt_X8_tax (l : Launch) (D : va_G) (dA : Nat → ClassId) (st : Nat) (hst : st = 1 ∨ st = 2) (ad : Nat → Nat) (N : Nat) (hA : yA ad N) (σ : mMem) (p g v : Int32) (np : Nat) (nc : Nat → Nat) (ld : Nat → Nat → Nat) (hF : yFk σ 1 np nc ld) : Met l yX8_tax (ws_ yX8_tax cX8_tax 5 (some .int)) ({ frames := 2, cells := 0, slots := 0, locals := 46 }) (va_Pc [.ref (ad 0), .int p, .int g, .int v] (mPre D dA (shM st) ad N σ)) (va_Qi (fun (r : Int32) (u : mMem) => (if ik p np then (if ik g 5 then (if ik v 10 then (r = σ 3 (5 * tn p + tn g) ∧ u = mup σ 3 (5 * tn p + tn g) v) else (r = -1 ∧ u = σ)) else (r = -1 ∧ u = σ)) else (r = -1 ∧ u = σ))) (mB D dA (shM st) ad N) (mAd ad N)) 0 0 (mAd ad N) := by
  refine Met.ofW (cc := cX8_tax) (maxL := 5) (ret := (some .int)) (by decide) rfl ?_
  intro pp ee ss mm args below meth cd s₁ B hml hv
  obtain ⟨rfl, hP, hE⟩ := hv
  have hx := B.exec
  have hb := B.bytes
  have hr := B.returns
  have hts := atoms_spec (ws := ws_ yX8_tax cX8_tax 5 (some .int)) B.pre
  have hts : ∀ w ∈ lw_all, w.before _ ss = true := fun w h => hts w (List.mem_cons_of_mem _ h)
  have hown : ss.vm.findClass RX8 = some mm.cls := findClass_of_methodNamed B.named
  have hlocks := B.notSynchronized
  have hD := hA.2.self
  have hS : va_S (mAd ad N) ss.heap ss.heap [] := va_S.rf
  have hNN := hA.1
  have hn5 := hF.n5
  have hl := lv_entry ([.ref (ad 0), .int p, .int g, .int v]) (n := 5) (Nat.le_of_ble_eq_true rfl)
  rw [lg_entry_eq]
  generalize (lg_sl ([.ref (ad 0), .int p, .int g, .int v]) ++ List.replicate (5 - (lg_sl ([.ref (ad 0), .int p, .int g, .int v])).length) Slot.unset).toArray = ls at hl ⊢
  have hl : lv_has ls 5 [(0, .ref (ad 0)), (1, .int p), (2, .int g), (3, .int v)] := hl
  refine lv_aload_n hx hb dX8_tax_0 rfl (lv_at hl 0 rfl) ?_
  refine lv_iload_n hx hb dX8_tax_1 rfl (lv_at hl 1 rfl) ?_
  refine vp_callSi (W.runV (As := [.int p]) (rest := []) ⟨hx, hb, hml, hown, hts⟩ (mt_X8_isOne l D dA st hst ad N hA σ p np hF.n hF.n5) (cwV 1 hts (lw_V q863 q865 qs20 q55 q866) rfl rfl rfl (by decide +kernel) ⟨Nat.le_of_ble_eq_true rfl, Nat.le_of_ble_eq_true rfl⟩) ⟨mPre.blind, m_recv hE hP 0 (yl_n hA (by decide)) rfl rfl, mPre.at hE hP⟩ rfl rfl hl.1 rfl (lv_room (Nat.le_of_ble_eq_true rfl)) dX8_tax_2 ⟨Nat.le_of_ble_eq_true rfl, Nat.le_of_ble_eq_true rfl⟩) (fun r_1 hr_1 => ?_)
  subst hr_1
  refine lv_if_eq (tgt := 27) hx hb dX8_tax_5 (by decide) (fun c_2 => ?_) (fun c_2 => ?_)
  · have c_2 : ¬ (ik p np) := bi_f c_2
    refine lv_iconst (v := (-1)) hx hb dX8_tax_27 (by decide) ?_
    exact W.iret (v := (-1)) hx hb hr (fun t ht hW => ⟨⟨_, _, rfl, by dsimp only; rw [if_neg c_2]; exact ⟨rfl, rfl⟩, mB.of ht hP⟩, hS.F ht⟩) hS.2.2 dX8_tax_28
  · have c_2 : ik p np := bi_t c_2
    have c_2_lt := ik_lt c_2
    have c_2_m := hF.m c_2_lt
    have c_2_8 := hF.m8 c_2_lt
    refine lv_iload_n hx hb dX8_tax_8 rfl (lv_at hl 2 rfl) ?_
    refine vp_callSi (W.runS (As := [.int g]) (rest := []) ⟨hx, hb, hml, hown, hts⟩ (mt_X8_isLender l g) (va_cwS 1 hts (lw_S q886 q887 q55 q888) rfl rfl rfl (by decide +kernel) ⟨Nat.le_of_ble_eq_true rfl, Nat.le_of_ble_eq_true rfl⟩) ⟨fun _ _ _ _ h => h, fun _ _ _ => ⟨rfl, trivial⟩⟩ rfl rfl hl.1 rfl (lv_room (Nat.le_of_ble_eq_true rfl)) dX8_tax_9 ⟨Nat.le_of_ble_eq_true rfl, Nat.le_of_ble_eq_true rfl⟩) (fun r_3 hr_3 => ?_)
    subst hr_3
    refine lv_if_eq (tgt := 27) hx hb dX8_tax_12 (by decide) (fun c_4 => ?_) (fun c_4 => ?_)
    · have c_4 : ¬ (ik g 5) := bi_f c_4
      refine lv_iconst (v := (-1)) hx hb dX8_tax_27 (by decide) ?_
      exact W.iret (v := (-1)) hx hb hr (fun t ht hW => ⟨⟨_, _, rfl, by dsimp only; rw [if_pos c_2, if_neg c_4]; exact ⟨rfl, rfl⟩, mB.of ht hP⟩, hS.F ht⟩) hS.2.2 dX8_tax_28
    · have c_4 : ik g 5 := bi_t c_4
      have c_4_lt := ik_lt c_4
      refine lv_iload_n hx hb dX8_tax_15 rfl (lv_at hl 3 rfl) ?_
      refine lv_i2l (v := v.toInt64) hx hb dX8_tax_16 rfl ?_
      refine lv_lconst (v := 0) hx hb dX8_tax_17 (by decide) ?_
      refine lv_ldc2 hx hb hown (hts _ q890) dX8_tax_18 ?_
      refine vp_callSi (W.runS (As := [.long v.toInt64, .long 0, .long 9]) (rest := []) ⟨hx, hb, hml, hown, hts⟩ (mt_X8_in l v.toInt64 0 9) (va_cwS 3 hts (lw_S q854 q855 q55 q856) rfl rfl rfl (by decide +kernel) ⟨Nat.le_of_ble_eq_true rfl, Nat.le_of_ble_eq_true rfl⟩) ⟨fun _ _ _ _ h => h, fun _ _ _ => ⟨rfl, trivial⟩⟩ rfl rfl hl.1 rfl (lv_room (Nat.le_of_ble_eq_true rfl)) dX8_tax_21 ⟨Nat.le_of_ble_eq_true rfl, Nat.le_of_ble_eq_true rfl⟩) (fun r_5 hr_5 => ?_)
      subst hr_5
      refine lv_rwi (bi_c (lik_of (n := 10) rfl rfl)) ?_
      refine lv_if_ne (tgt := 29) hx hb dX8_tax_24 (by decide) (fun c_6 => ?_) (fun c_6 => ?_)
      · have c_6 : ik v 10 := bi_t c_6
        have c_6_lt := ik_lt c_6
        refine lv_aload_n hx hb dX8_tax_29 rfl (lv_at hl 0 rfl) ?_
        refine mg_ref hx hb hts in_X8 hown hE hP 0 (yl_n hA (by decide)) rfl rfl 4 rfl (by decide) (hts _ q768) (fun _ h9 => h9) dX8_tax_30 ?_
        refine lv_iconst (v := 5) hx hb dX8_tax_33 (by decide) ?_
        refine lv_iload_n hx hb dX8_tax_34 rfl (lv_at hl 1 rfl) ?_
        refine lv_imul hx hb dX8_tax_35 ?_
        refine lv_iload_n hx hb dX8_tax_36 rfl (lv_at hl 2 rfl) ?_
        refine lv_iadd hx hb dX8_tax_37 ?_
        refine mg_ild hx hb hE hP 3 (yl_n hA (by decide)) rfl (5 * (tn p) + tn g) (by omega) (mi_add (mi_mul rfl (ik_eq c_2)) (ik_eq c_4)) (by decide) dX8_tax_38 ?_
        refine lv_istore (lv' := [(4, .int (σ 3 (5 * (tn p) + tn g))), (0, .ref (ad 0)), (1, .int p), (2, .int g), (3, .int v)]) hx hb dX8_tax_39 hl (by decide) rfl (fun ls hl => ?_)
        refine lv_aload_n hx hb dX8_tax_41 rfl (lv_at hl 1 rfl) ?_
        refine mg_ref hx hb hts in_X8 hown hE hP 0 (yl_n hA (by decide)) rfl rfl 4 rfl (by decide) (hts _ q768) (fun _ h9 => h9) dX8_tax_42 ?_
        refine lv_iconst (v := 5) hx hb dX8_tax_45 (by decide) ?_
        refine lv_iload_n hx hb dX8_tax_46 rfl (lv_at hl 2 rfl) ?_
        refine lv_imul hx hb dX8_tax_47 ?_
        refine lv_iload_n hx hb dX8_tax_48 rfl (lv_at hl 3 rfl) ?_
        refine lv_iadd hx hb dX8_tax_49 ?_
        refine lv_iload_n hx hb dX8_tax_50 rfl (lv_at hl 4 rfl) ?_
        refine mg_ist (v := v) hx hb hE hD hP hS 3 (yl_n hA (by decide)) rfl (5 * (tn p) + tn g) (by omega) (mi_add (mi_mul rfl (ik_eq c_2)) (ik_eq c_4)) (by decide) dX8_tax_51 (fun H locs hP hS => ?_)
        refine lv_iload hx hb dX8_tax_52 (lv_at hl 0 rfl) ?_
        exact W.iret (v := σ 3 (5 * (tn p) + tn g)) hx hb hr (fun t ht hW => ⟨⟨_, _, rfl, by dsimp only; rw [if_pos c_2, if_pos c_4, if_pos c_6]; exact ⟨rfl, rfl⟩, mB.of ht hP⟩, hS.F ht⟩) hS.2.2 dX8_tax_54
      · have c_6 : ¬ (ik v 10) := bi_f c_6
        refine lv_iconst (v := (-1)) hx hb dX8_tax_27 (by decide) ?_
        exact W.iret (v := (-1)) hx hb hr (fun t ht hW => ⟨⟨_, _, rfl, by dsimp only; rw [if_pos c_2, if_pos c_4, if_neg c_6]; exact ⟨rfl, rfl⟩, mB.of ht hP⟩, hS.F ht⟩) hS.2.2 dX8_tax_28
set_option maxHeartbeats 4000000 in
set_option maxRecDepth 100000 in
theorem mt_X8_heat (l : Launch) (D : va_G) (dA : Nat → ClassId) (st : Nat) (hst : st = 1 ∨ st = 2) (ad : Nat → Nat) (N : Nat) (hA : yA ad N) (σ : mMem) (a v : Int32) : Met l yX8_heat (ws_ yX8_heat cX8_heat 4 (some .int)) ({ frames := 1, cells := 0, slots := 0, locals := 25 }) (va_Pc [.ref (ad 0), .int a, .int v] (mPre D dA (shM st) ad N σ)) (va_Qi (fun (r : Int32) (u : mMem) => (if ik a 12 then (if ik v 41 then (r = σ 4 (tn a) ∧ u = mup σ 4 (tn a) v) else (r = -1 ∧ u = σ)) else (r = -1 ∧ u = σ))) (mB D dA (shM st) ad N) (mAd ad N)) 0 0 (mAd ad N) := by
  refine Met.ofW (cc := cX8_heat) (maxL := 4) (ret := (some .int)) (by decide) rfl ?_
  intro pp ee ss mm args below meth cd s₁ B hml hv
  obtain ⟨rfl, hP, hE⟩ := hv
  have hx := B.exec
  have hb := B.bytes
  have hr := B.returns
  have hts := atoms_spec (ws := ws_ yX8_heat cX8_heat 4 (some .int)) B.pre
  have hts : ∀ w ∈ lw_all, w.before _ ss = true := fun w h => hts w (List.mem_cons_of_mem _ h)
  have hown : ss.vm.findClass RX8 = some mm.cls := findClass_of_methodNamed B.named
  have hlocks := B.notSynchronized
  have hD := hA.2.self
  have hS : va_S (mAd ad N) ss.heap ss.heap [] := va_S.rf
  have hNN := hA.1
  have hl := lv_entry ([.ref (ad 0), .int a, .int v]) (n := 4) (Nat.le_of_ble_eq_true rfl)
  rw [lg_entry_eq]
  generalize (lg_sl ([.ref (ad 0), .int a, .int v]) ++ List.replicate (4 - (lg_sl ([.ref (ad 0), .int a, .int v])).length) Slot.unset).toArray = ls at hl ⊢
  have hl : lv_has ls 4 [(0, .ref (ad 0)), (1, .int a), (2, .int v)] := hl
  refine lv_iload_n hx hb dX8_heat_0 rfl (lv_at hl 1 rfl) ?_
  refine lv_i2l (v := a.toInt64) hx hb dX8_heat_1 rfl ?_
  refine lv_lconst (v := 0) hx hb dX8_heat_2 (by decide) ?_
  refine lv_ldc2 hx hb hown (hts _ q895) dX8_heat_3 ?_
  refine vp_callSi (W.runS (As := [.long a.toInt64, .long 0, .long 11]) (rest := []) ⟨hx, hb, hml, hown, hts⟩ (mt_X8_in l a.toInt64 0 11) (va_cwS 3 hts (lw_S q854 q855 q55 q856) rfl rfl rfl (by decide +kernel) ⟨Nat.le_of_ble_eq_true rfl, Nat.le_of_ble_eq_true rfl⟩) ⟨fun _ _ _ _ h => h, fun _ _ _ => ⟨rfl, trivial⟩⟩ rfl rfl hl.1 rfl (lv_room (Nat.le_of_ble_eq_true rfl)) dX8_heat_6 ⟨Nat.le_of_ble_eq_true rfl, Nat.le_of_ble_eq_true rfl⟩) (fun r_1 hr_1 => ?_)
  subst hr_1
  refine lv_rwi (bi_c (lik_of (n := 12) rfl rfl)) ?_
  refine lv_if_eq (tgt := 24) hx hb dX8_heat_9 (by decide) (fun c_2 => ?_) (fun c_2 => ?_)
  · have c_2 : ¬ (ik a 12) := bi_f c_2
    refine lv_iconst (v := (-1)) hx hb dX8_heat_24 (by decide) ?_
    exact W.iret (v := (-1)) hx hb hr (fun t ht hW => ⟨⟨_, _, rfl, by dsimp only; rw [if_neg c_2]; exact ⟨rfl, rfl⟩, mB.of ht hP⟩, hS.F ht⟩) hS.2.2 dX8_heat_25
  · have c_2 : ik a 12 := bi_t c_2
    have c_2_lt := ik_lt c_2
    refine lv_iload_n hx hb dX8_heat_12 rfl (lv_at hl 2 rfl) ?_
    refine lv_i2l (v := v.toInt64) hx hb dX8_heat_13 rfl ?_
    refine lv_lconst (v := 0) hx hb dX8_heat_14 (by decide) ?_
    refine lv_ldc2 hx hb hown (hts _ q896) dX8_heat_15 ?_
    refine vp_callSi (W.runS (As := [.long v.toInt64, .long 0, .long 40]) (rest := []) ⟨hx, hb, hml, hown, hts⟩ (mt_X8_in l v.toInt64 0 40) (va_cwS 3 hts (lw_S q854 q855 q55 q856) rfl rfl rfl (by decide +kernel) ⟨Nat.le_of_ble_eq_true rfl, Nat.le_of_ble_eq_true rfl⟩) ⟨fun _ _ _ _ h => h, fun _ _ _ => ⟨rfl, trivial⟩⟩ rfl rfl hl.1 rfl (lv_room (Nat.le_of_ble_eq_true rfl)) dX8_heat_18 ⟨Nat.le_of_ble_eq_true rfl, Nat.le_of_ble_eq_true rfl⟩) (fun r_3 hr_3 => ?_)
    subst hr_3
    refine lv_rwi (bi_c (lik_of (n := 41) rfl rfl)) ?_
    refine lv_if_ne (tgt := 26) hx hb dX8_heat_21 (by decide) (fun c_4 => ?_) (fun c_4 => ?_)
    · have c_4 : ik v 41 := bi_t c_4
      have c_4_lt := ik_lt c_4
      refine lv_aload_n hx hb dX8_heat_26 rfl (lv_at hl 0 rfl) ?_
      refine mg_ref hx hb hts in_X8 hown hE hP 0 (yl_n hA (by decide)) rfl rfl 5 rfl (by decide) (hts _ q769) (fun _ h9 => h9) dX8_heat_27 ?_
      refine lv_iload_n hx hb dX8_heat_30 rfl (lv_at hl 1 rfl) ?_
      refine mg_ild hx hb hE hP 4 (yl_n hA (by decide)) rfl (tn a) (by omega) (ik_eq c_2) (by decide) dX8_heat_31 ?_
      refine lv_istore_n (lv' := [(3, .int (σ 4 (tn a))), (0, .ref (ad 0)), (1, .int a), (2, .int v)]) hx hb dX8_heat_32 rfl hl (by decide) rfl (fun ls hl => ?_)
      refine lv_aload_n hx hb dX8_heat_33 rfl (lv_at hl 1 rfl) ?_
      refine mg_ref hx hb hts in_X8 hown hE hP 0 (yl_n hA (by decide)) rfl rfl 5 rfl (by decide) (hts _ q769) (fun _ h9 => h9) dX8_heat_34 ?_
      refine lv_iload_n hx hb dX8_heat_37 rfl (lv_at hl 2 rfl) ?_
      refine lv_iload_n hx hb dX8_heat_38 rfl (lv_at hl 3 rfl) ?_
      refine mg_ist (v := v) hx hb hE hD hP hS 4 (yl_n hA (by decide)) rfl (tn a) (by omega) (ik_eq c_2) (by decide) dX8_heat_39 (fun H locs hP hS => ?_)
      refine lv_iload_n hx hb dX8_heat_40 rfl (lv_at hl 0 rfl) ?_
      exact W.iret (v := σ 4 (tn a)) hx hb hr (fun t ht hW => ⟨⟨_, _, rfl, by dsimp only; rw [if_pos c_2, if_pos c_4]; exact ⟨rfl, rfl⟩, mB.of ht hP⟩, hS.F ht⟩) hS.2.2 dX8_heat_41
    · have c_4 : ¬ (ik v 41) := bi_f c_4
      refine lv_iconst (v := (-1)) hx hb dX8_heat_24 (by decide) ?_
      exact W.iret (v := (-1)) hx hb hr (fun t ht hW => ⟨⟨_, _, rfl, by dsimp only; rw [if_pos c_2, if_neg c_4]; exact ⟨rfl, rfl⟩, mB.of ht hP⟩, hS.F ht⟩) hS.2.2 dX8_heat_25
set_option maxHeartbeats 4000000 in
set_option maxRecDepth 100000 in
theorem mt_X8_rule (l : Launch) (D : va_G) (dA : Nat → ClassId) (st : Nat) (hst : st = 1 ∨ st = 2) (ad : Nat → Nat) (N : Nat) (hA : yA ad N) (σ : mMem) (a v : Int32) : Met l yX8_rule (ws_ yX8_rule cX8_rule 4 (some .int)) ({ frames := 1, cells := 0, slots := 0, locals := 25 }) (va_Pc [.ref (ad 0), .int a, .int v] (mPre D dA (shM st) ad N σ)) (va_Qi (fun (r : Int32) (u : mMem) => (if ik a 2 then (if tn a = 0 then (if ik v 3 then (r = σ 5 (tn a) ∧ u = mup σ 5 (tn a) v) else (r = -1 ∧ u = σ)) else (if ik v 10 then (r = σ 5 (tn a) ∧ u = mup σ 5 (tn a) v) else (r = -1 ∧ u = σ))) else (r = -1 ∧ u = σ))) (mB D dA (shM st) ad N) (mAd ad N)) 0 0 (mAd ad N) := by
  refine Met.ofW (cc := cX8_rule) (maxL := 4) (ret := (some .int)) (by decide) rfl ?_
  intro pp ee ss mm args below meth cd s₁ B hml hv
  obtain ⟨rfl, hP, hE⟩ := hv
  have hx := B.exec
  have hb := B.bytes
  have hr := B.returns
  have hts := atoms_spec (ws := ws_ yX8_rule cX8_rule 4 (some .int)) B.pre
  have hts : ∀ w ∈ lw_all, w.before _ ss = true := fun w h => hts w (List.mem_cons_of_mem _ h)
  have hown : ss.vm.findClass RX8 = some mm.cls := findClass_of_methodNamed B.named
  have hlocks := B.notSynchronized
  have hD := hA.2.self
  have hS : va_S (mAd ad N) ss.heap ss.heap [] := va_S.rf
  have hNN := hA.1
  have hl := lv_entry ([.ref (ad 0), .int a, .int v]) (n := 4) (Nat.le_of_ble_eq_true rfl)
  rw [lg_entry_eq]
  generalize (lg_sl ([.ref (ad 0), .int a, .int v]) ++ List.replicate (4 - (lg_sl ([.ref (ad 0), .int a, .int v])).length) Slot.unset).toArray = ls at hl ⊢
  have hl : lv_has ls 4 [(0, .ref (ad 0)), (1, .int a), (2, .int v)] := hl
  refine lv_iload_n hx hb dX8_rule_0 rfl (lv_at hl 1 rfl) ?_
  refine lv_i2l (v := a.toInt64) hx hb dX8_rule_1 rfl ?_
  refine lv_lconst (v := 0) hx hb dX8_rule_2 (by decide) ?_
  refine lv_lconst (v := 1) hx hb dX8_rule_3 (by decide) ?_
  refine vp_callSi (W.runS (As := [.long a.toInt64, .long 0, .long 1]) (rest := []) ⟨hx, hb, hml, hown, hts⟩ (mt_X8_in l a.toInt64 0 1) (va_cwS 3 hts (lw_S q854 q855 q55 q856) rfl rfl rfl (by decide +kernel) ⟨Nat.le_of_ble_eq_true rfl, Nat.le_of_ble_eq_true rfl⟩) ⟨fun _ _ _ _ h => h, fun _ _ _ => ⟨rfl, trivial⟩⟩ rfl rfl hl.1 rfl (lv_room (Nat.le_of_ble_eq_true rfl)) dX8_rule_4 ⟨Nat.le_of_ble_eq_true rfl, Nat.le_of_ble_eq_true rfl⟩) (fun r_1 hr_1 => ?_)
  subst hr_1
  refine lv_rwi (bi_c (lik_of (n := 2) rfl rfl)) ?_
  refine lv_if_eq (tgt := 32) hx hb dX8_rule_7 (by decide) (fun c_2 => ?_) (fun c_2 => ?_)
  · have c_2 : ¬ (ik a 2) := bi_f c_2
    refine lv_iconst (v := (-1)) hx hb dX8_rule_32 (by decide) ?_
    exact W.iret (v := (-1)) hx hb hr (fun t ht hW => ⟨⟨_, _, rfl, by dsimp only; rw [if_neg c_2]; exact ⟨rfl, rfl⟩, mB.of ht hP⟩, hS.F ht⟩) hS.2.2 dX8_rule_33
  · have c_2 : ik a 2 := bi_t c_2
    have c_2_lt := ik_lt c_2
    refine lv_iload_n hx hb dX8_rule_10 rfl (lv_at hl 2 rfl) ?_
    refine lv_i2l (v := v.toInt64) hx hb dX8_rule_11 rfl ?_
    refine lv_lconst (v := 0) hx hb dX8_rule_12 (by decide) ?_
    refine lv_iload_n hx hb dX8_rule_13 rfl (lv_at hl 1 rfl) ?_
    refine lv_if_ne (tgt := 23) hx hb dX8_rule_14 (by decide) (fun c_3 => ?_) (fun c_3 => ?_)
    · have nc_3 : tn a ≠ 0 := mi_ne (ik_eq c_2) rfl (by omega) (by omega) c_3
      refine lv_ldc2 hx hb hown (hts _ q890) dX8_rule_23 ?_
      refine vp_callSi (W.runS (As := [.long v.toInt64, .long 0, .long 9]) (rest := []) ⟨hx, hb, hml, hown, hts⟩ (mt_X8_in l v.toInt64 0 9) (va_cwS 3 hts (lw_S q854 q855 q55 q856) rfl rfl rfl (by decide +kernel) ⟨Nat.le_of_ble_eq_true rfl, Nat.le_of_ble_eq_true rfl⟩) ⟨fun _ _ _ _ h => h, fun _ _ _ => ⟨rfl, trivial⟩⟩ rfl rfl hl.1 rfl (lv_room (Nat.le_of_ble_eq_true rfl)) dX8_rule_26 ⟨Nat.le_of_ble_eq_true rfl, Nat.le_of_ble_eq_true rfl⟩) (fun r_4 hr_4 => ?_)
      subst hr_4
      refine lv_rwi (bi_c (lik_of (n := 10) rfl rfl)) ?_
      refine lv_if_ne (tgt := 34) hx hb dX8_rule_29 (by decide) (fun c_5 => ?_) (fun c_5 => ?_)
      · have c_5 : ik v 10 := bi_t c_5
        have c_5_lt := ik_lt c_5
        refine lv_aload_n hx hb dX8_rule_34 rfl (lv_at hl 0 rfl) ?_
        refine mg_ref hx hb hts in_X8 hown hE hP 0 (yl_n hA (by decide)) rfl rfl 6 rfl (by decide) (hts _ q770) (fun _ h9 => h9) dX8_rule_35 ?_
        refine lv_iload_n hx hb dX8_rule_38 rfl (lv_at hl 1 rfl) ?_
        refine mg_ild hx hb hE hP 5 (yl_n hA (by decide)) rfl (tn a) (by omega) (ik_eq c_2) (by decide) dX8_rule_39 ?_
        refine lv_istore_n (lv' := [(3, .int (σ 5 (tn a))), (0, .ref (ad 0)), (1, .int a), (2, .int v)]) hx hb dX8_rule_40 rfl hl (by decide) rfl (fun ls hl => ?_)
        refine lv_aload_n hx hb dX8_rule_41 rfl (lv_at hl 1 rfl) ?_
        refine mg_ref hx hb hts in_X8 hown hE hP 0 (yl_n hA (by decide)) rfl rfl 6 rfl (by decide) (hts _ q770) (fun _ h9 => h9) dX8_rule_42 ?_
        refine lv_iload_n hx hb dX8_rule_45 rfl (lv_at hl 2 rfl) ?_
        refine lv_iload_n hx hb dX8_rule_46 rfl (lv_at hl 3 rfl) ?_
        refine mg_ist (v := v) hx hb hE hD hP hS 5 (yl_n hA (by decide)) rfl (tn a) (by omega) (ik_eq c_2) (by decide) dX8_rule_47 (fun H locs hP hS => ?_)
        refine lv_iload_n hx hb dX8_rule_48 rfl (lv_at hl 0 rfl) ?_
        exact W.iret (v := σ 5 (tn a)) hx hb hr (fun t ht hW => ⟨⟨_, _, rfl, by dsimp only; rw [if_pos c_2, if_neg nc_3, if_pos c_5]; exact ⟨rfl, rfl⟩, mB.of ht hP⟩, hS.F ht⟩) hS.2.2 dX8_rule_49
      · have c_5 : ¬ (ik v 10) := bi_f c_5
        refine lv_iconst (v := (-1)) hx hb dX8_rule_32 (by decide) ?_
        exact W.iret (v := (-1)) hx hb hr (fun t ht hW => ⟨⟨_, _, rfl, by dsimp only; rw [if_pos c_2, if_neg nc_3, if_neg c_5]; exact ⟨rfl, rfl⟩, mB.of ht hP⟩, hS.F ht⟩) hS.2.2 dX8_rule_33
    · have nc_3 : tn a = 0 := mi_eq (ik_eq c_2) rfl (by omega) (by omega) c_3
      refine lv_ldc2 hx hb hown (hts _ q901) dX8_rule_17 ?_
      refine lv_goto (tgt := 26) hx hb dX8_rule_20 (by decide) ?_
      refine vp_callSi (W.runS (As := [.long v.toInt64, .long 0, .long 2]) (rest := []) ⟨hx, hb, hml, hown, hts⟩ (mt_X8_in l v.toInt64 0 2) (va_cwS 3 hts (lw_S q854 q855 q55 q856) rfl rfl rfl (by decide +kernel) ⟨Nat.le_of_ble_eq_true rfl, Nat.le_of_ble_eq_true rfl⟩) ⟨fun _ _ _ _ h => h, fun _ _ _ => ⟨rfl, trivial⟩⟩ rfl rfl hl.1 rfl (lv_room (Nat.le_of_ble_eq_true rfl)) dX8_rule_26 ⟨Nat.le_of_ble_eq_true rfl, Nat.le_of_ble_eq_true rfl⟩) (fun r_6 hr_6 => ?_)
      subst hr_6
      refine lv_rwi (bi_c (lik_of (n := 3) rfl rfl)) ?_
      refine lv_if_ne (tgt := 34) hx hb dX8_rule_29 (by decide) (fun c_7 => ?_) (fun c_7 => ?_)
      · have c_7 : ik v 3 := bi_t c_7
        have c_7_lt := ik_lt c_7
        refine lv_aload_n hx hb dX8_rule_34 rfl (lv_at hl 0 rfl) ?_
        refine mg_ref hx hb hts in_X8 hown hE hP 0 (yl_n hA (by decide)) rfl rfl 6 rfl (by decide) (hts _ q770) (fun _ h9 => h9) dX8_rule_35 ?_
        refine lv_iload_n hx hb dX8_rule_38 rfl (lv_at hl 1 rfl) ?_
        refine mg_ild hx hb hE hP 5 (yl_n hA (by decide)) rfl (tn a) (by omega) (ik_eq c_2) (by decide) dX8_rule_39 ?_
        refine lv_istore_n (lv' := [(3, .int (σ 5 (tn a))), (0, .ref (ad 0)), (1, .int a), (2, .int v)]) hx hb dX8_rule_40 rfl hl (by decide) rfl (fun ls hl => ?_)
        refine lv_aload_n hx hb dX8_rule_41 rfl (lv_at hl 1 rfl) ?_
        refine mg_ref hx hb hts in_X8 hown hE hP 0 (yl_n hA (by decide)) rfl rfl 6 rfl (by decide) (hts _ q770) (fun _ h9 => h9) dX8_rule_42 ?_
        refine lv_iload_n hx hb dX8_rule_45 rfl (lv_at hl 2 rfl) ?_
        refine lv_iload_n hx hb dX8_rule_46 rfl (lv_at hl 3 rfl) ?_
        refine mg_ist (v := v) hx hb hE hD hP hS 5 (yl_n hA (by decide)) rfl (tn a) (by omega) (ik_eq c_2) (by decide) dX8_rule_47 (fun H locs hP hS => ?_)
        refine lv_iload_n hx hb dX8_rule_48 rfl (lv_at hl 0 rfl) ?_
        exact W.iret (v := σ 5 (tn a)) hx hb hr (fun t ht hW => ⟨⟨_, _, rfl, by dsimp only; rw [if_pos c_2, if_pos nc_3, if_pos c_7]; exact ⟨rfl, rfl⟩, mB.of ht hP⟩, hS.F ht⟩) hS.2.2 dX8_rule_49
      · have c_7 : ¬ (ik v 3) := bi_f c_7
        refine lv_iconst (v := (-1)) hx hb dX8_rule_32 (by decide) ?_
        exact W.iret (v := (-1)) hx hb hr (fun t ht hW => ⟨⟨_, _, rfl, by dsimp only; rw [if_pos c_2, if_pos nc_3, if_neg c_7]; exact ⟨rfl, rfl⟩, mB.of ht hP⟩, hS.F ht⟩) hS.2.2 dX8_rule_33
set_option maxHeartbeats 4000000 in
set_option maxRecDepth 100000 in
theorem mt_X8_count (l : Launch) (D : va_G) (dA : Nat → ClassId) (st : Nat) (hst : st = 1 ∨ st = 2) (ad : Nat → Nat) (N : Nat) (hA : yA ad N) (σ : mMem) (a : Int32) (np : Nat) (nc : Nat → Nat) (ld : Nat → Nat → Nat) (hF : yFk σ 1 np nc ld) : Met l yX8_count (ws_ yX8_count cX8_count 5 (some .int)) ({ frames := 0, cells := 0, slots := 0, locals := 0 }) (va_Pc [.ref (ad 0), .int a] (mPre D dA (shM st) ad N σ)) (vp_Si (fun r : Int32 => r = cntM σ np a)) 0 0 (fun _ => False) := by
  refine Met.ofW (cc := cX8_count) (maxL := 5) (ret := (some .int)) (by decide) rfl ?_
  intro pp ee ss mm args below meth cd s₁ B hml hv
  obtain ⟨rfl, hP, hE⟩ := hv
  have hx := B.exec
  have hb := B.bytes
  have hr := B.returns
  have hts := atoms_spec (ws := ws_ yX8_count cX8_count 5 (some .int)) B.pre
  have hts : ∀ w ∈ lw_all, w.before _ ss = true := fun w h => hts w (List.mem_cons_of_mem _ h)
  have hown : ss.vm.findClass RX8 = some mm.cls := findClass_of_methodNamed B.named
  have hlocks := B.notSynchronized
  have hNN := hA.1
  have hn5 := hF.n5
  have hl := lv_entry ([.ref (ad 0), .int a]) (n := 5) (Nat.le_of_ble_eq_true rfl)
  rw [lg_entry_eq]
  generalize (lg_sl ([.ref (ad 0), .int a]) ++ List.replicate (5 - (lg_sl ([.ref (ad 0), .int a])).length) Slot.unset).toArray = ls at hl ⊢
  have hl : lv_has ls 5 [(0, .ref (ad 0)), (1, .int a)] := hl
  refine lv_iconst (v := 0) hx hb dX8_count_0 (by decide) ?_
  refine lv_istore_n (lv' := [(2, .int 0), (0, .ref (ad 0)), (1, .int a)]) hx hb dX8_count_1 rfl hl (by decide) rfl (fun ls hl => ?_)
  refine lv_iconst (v := 0) hx hb dX8_count_2 (by decide) ?_
  refine lv_istore_n (lv' := [(3, .int 0), (2, .int 0), (0, .ref (ad 0)), (1, .int a)]) hx hb dX8_count_3 rfl hl (by decide) rfl (fun ls hl => ?_)
  refine lv_iconst (v := 0) hx hb dX8_count_4 (by decide) ?_
  refine lv_istore (lv' := [(4, .int 0), (3, .int 0), (2, .int 0), (0, .ref (ad 0)), (1, .int a)]) hx hb dX8_count_5 hl (by decide) rfl (fun ls hl => ?_)
  have lp7 : ∀ (fu : Nat) (p : Nat) (_ : p ≤ np) (_ : np - p < fu) (ls : Array Slot) (_ : lv_has ls 5 [(4, .int (nI p)), (3, .int (cmf σ p)), (2, .int (cmc σ p)), (0, .ref (ad 0)), (1, .int a)]), W pp l ee (headSpec (ws_ yX8_count cX8_count 5 (some .int)) ({ frames := 0, cells := 0, slots := 0, locals := 0 })).room ss mm ([.ref (ad 0), .int a] : List Value).toArray below meth cd ss.heap [] 0 0 (MQ below (vp_Si (fun r : Int32 => r = cntM σ np a)) ([.ref (ad 0), .int a] : List Value).toArray ss 0 0 (fun _ => False)) (F0 mm 7 ls []) := by
    intro fu
    induction fu with
    | zero => intro p hp hfu; exact absurd hfu (Nat.not_lt_zero _)
    | succ fu ih7 =>
      intro p hp hfu ls hl
      refine lv_iload hx hb dX8_count_7 (lv_at hl 0 rfl) ?_
      refine lv_aload_n hx hb dX8_count_9 rfl (lv_at hl 3 rfl) ?_
      refine mg_get hx hb hts in_X8 hown hE hP 0 (yl_n hA (by decide)) rfl rfl 0 rfl (by decide) (hts _ q764) (fun _ h9 => h9) dX8_count_10 ?_
      refine lv_icmp_ge (tgt := 55) hx hb dX8_count_13 (by decide) (fun c_1 => ?_) (fun c_1 => ?_)
      · have nc_1 : np ≤ p := mi_le hF.n rfl (by omega) (by omega) c_1
        refine lv_iload_n hx hb dX8_count_55 rfl (lv_at hl 4 rfl) ?_
        by_cases sw_2 : a = 0
        · refine lv_rwi sw_2 ?_
          refine lv_tableIn (tgt := 96) hx hb dX8_count_56 (by decide) (by decide) rfl (by decide) ?_
          refine lv_aload_n hx hb dX8_count_96 rfl (lv_at hl 3 rfl) ?_
          refine mg_get hx hb hts in_X8 hown hE hP 0 (yl_n hA (by decide)) rfl rfl 0 rfl (by decide) (hts _ q764) (fun _ h9 => h9) dX8_count_97 ?_
          exact W.iret (v := σ 0 0) hx hb hr (fun t ht hW => ⟨_, rfl, by dsimp only; rw [cntM, if_pos sw_2], ht⟩) (fun q hq => by cases hq) dX8_count_100
        by_cases sw_3 : a = 1
        · refine lv_rwi sw_3 ?_
          refine lv_tableIn (tgt := 101) hx hb dX8_count_56 (by decide) (by decide) rfl (by decide) ?_
          refine lv_aload_n hx hb dX8_count_101 rfl (lv_at hl 3 rfl) ?_
          refine mg_get hx hb hts in_X8 hown hE hP 0 (yl_n hA (by decide)) rfl rfl 7 rfl (by decide) (hts _ q771) (fun _ h9 => h9) dX8_count_102 ?_
          exact W.iret (v := σ 0 7) hx hb hr (fun t ht hW => ⟨_, rfl, by dsimp only; rw [cntM, if_neg sw_2, if_pos sw_3], ht⟩) (fun q hq => by cases hq) dX8_count_105
        by_cases sw_4 : a = 2
        · refine lv_rwi sw_4 ?_
          refine lv_tableIn (tgt := 106) hx hb dX8_count_56 (by decide) (by decide) rfl (by decide) ?_
          refine lv_iload_n hx hb dX8_count_106 rfl (lv_at hl 2 rfl) ?_
          exact W.iret (v := (cmc σ p)) hx hb hr (fun t ht hW => ⟨_, rfl, by dsimp only; rw [show p = np by omega, cntM, if_neg sw_2, if_neg sw_3, if_pos sw_4], ht⟩) (fun q hq => by cases hq) dX8_count_107
        by_cases sw_5 : a = 3
        · refine lv_rwi sw_5 ?_
          refine lv_tableIn (tgt := 108) hx hb dX8_count_56 (by decide) (by decide) rfl (by decide) ?_
          refine lv_iload_n hx hb dX8_count_108 rfl (lv_at hl 1 rfl) ?_
          exact W.iret (v := (cmf σ p)) hx hb hr (fun t ht hW => ⟨_, rfl, by dsimp only; rw [show p = np by omega, cntM, if_neg sw_2, if_neg sw_3, if_neg sw_4, if_pos sw_5], ht⟩) (fun q hq => by cases hq) dX8_count_109
        by_cases sw_6 : a = 4
        · refine lv_rwi sw_6 ?_
          refine lv_tableIn (tgt := 110) hx hb dX8_count_56 (by decide) (by decide) rfl (by decide) ?_
          refine lv_aload_n hx hb dX8_count_110 rfl (lv_at hl 3 rfl) ?_
          refine mg_get hx hb hts in_X8 hown hE hP 0 (yl_n hA (by decide)) rfl rfl 8 rfl (by decide) (hts _ q772) (fun _ h9 => h9) dX8_count_111 ?_
          exact W.iret (v := σ 0 8) hx hb hr (fun t ht hW => ⟨_, rfl, by dsimp only; rw [cntM, if_neg sw_2, if_neg sw_3, if_neg sw_4, if_neg sw_5, if_pos sw_6], ht⟩) (fun q hq => by cases hq) dX8_count_114
        by_cases sw_7 : a = 5
        · refine lv_rwi sw_7 ?_
          refine lv_tableIn (tgt := 115) hx hb dX8_count_56 (by decide) (by decide) rfl (by decide) ?_
          refine lv_aload_n hx hb dX8_count_115 rfl (lv_at hl 3 rfl) ?_
          refine mg_get hx hb hts in_X8 hown hE hP 0 (yl_n hA (by decide)) rfl rfl 9 rfl (by decide) (hts _ q773) (fun _ h9 => h9) dX8_count_116 ?_
          exact W.iret (v := σ 0 9) hx hb hr (fun t ht hW => ⟨_, rfl, by dsimp only; rw [cntM, if_neg sw_2, if_neg sw_3, if_neg sw_4, if_neg sw_5, if_neg sw_6, if_pos sw_7], ht⟩) (fun q hq => by cases hq) dX8_count_119
        have isw_2 : a.toInt ≠ 0 := fun z => sw_2 (Int32.toInt_inj.mp z)
        have isw_3 : a.toInt ≠ 1 := fun z => sw_3 (Int32.toInt_inj.mp z)
        have isw_4 : a.toInt ≠ 2 := fun z => sw_4 (Int32.toInt_inj.mp z)
        have isw_5 : a.toInt ≠ 3 := fun z => sw_5 (Int32.toInt_inj.mp z)
        have isw_6 : a.toInt ≠ 4 := fun z => sw_6 (Int32.toInt_inj.mp z)
        have isw_7 : a.toInt ≠ 5 := fun z => sw_7 (Int32.toInt_inj.mp z)
        refine lv_tableOut (tgt := 120) hx hb dX8_count_56 (by omega) (by decide) ?_
        refine lv_iconst (v := (-1)) hx hb dX8_count_120 (by decide) ?_
        exact W.iret (v := (-1)) hx hb hr (fun t ht hW => ⟨_, rfl, by dsimp only; rw [cntM, if_neg sw_2, if_neg sw_3, if_neg sw_4, if_neg sw_5, if_neg sw_6, if_neg sw_7], ht⟩) (fun q hq => by cases hq) dX8_count_121
      · have nc_1 : p < np := mi_nle hF.n rfl (by omega) (by omega) c_1
        refine lv_iload_n hx hb dX8_count_16 rfl (lv_at hl 2 rfl) ?_
        refine lv_aload_n hx hb dX8_count_17 rfl (lv_at hl 3 rfl) ?_
        refine mg_ref hx hb hts in_X8 hown hE hP 0 (yl_n hA (by decide)) rfl rfl 1 rfl (by decide) (hts _ q765) (fun _ h9 => h9) dX8_count_18 ?_
        refine lv_bipush (v := 40) hx hb dX8_count_21 (by decide) ?_
        refine lv_iload hx hb dX8_count_23 (lv_at hl 0 rfl) ?_
        refine lv_imul hx hb dX8_count_25 ?_
        refine lv_iconst (v := 3) hx hb dX8_count_26 (by decide) ?_
        refine lv_iadd hx hb dX8_count_27 ?_
        refine mg_ild hx hb hE hP 1 (yl_n hA (by decide)) rfl (40 * p + 3) (by omega) (mi_add (mi_mul rfl rfl) rfl) (by decide) dX8_count_28 ?_
        refine lv_iadd hx hb dX8_count_29 ?_
        refine lv_istore_n (lv' := [(2, .int ((cmc σ p) + σ 1 (40 * p + 3))), (4, .int (nI p)), (3, .int (cmf σ p)), (0, .ref (ad 0)), (1, .int a)]) hx hb dX8_count_30 rfl hl (by decide) rfl (fun ls hl => ?_)
        refine lv_iload_n hx hb dX8_count_31 rfl (lv_at hl 2 rfl) ?_
        refine lv_aload_n hx hb dX8_count_32 rfl (lv_at hl 3 rfl) ?_
        refine mg_ref hx hb hts in_X8 hown hE hP 0 (yl_n hA (by decide)) rfl rfl 1 rfl (by decide) (hts _ q765) (fun _ h9 => h9) dX8_count_33 ?_
        refine lv_bipush (v := 40) hx hb dX8_count_36 (by decide) ?_
        refine lv_iload hx hb dX8_count_38 (lv_at hl 1 rfl) ?_
        refine lv_imul hx hb dX8_count_40 ?_
        refine lv_iconst (v := 5) hx hb dX8_count_41 (by decide) ?_
        refine lv_iadd hx hb dX8_count_42 ?_
        refine mg_ild hx hb hE hP 1 (yl_n hA (by decide)) rfl (40 * p + 5) (by omega) (mi_add (mi_mul rfl rfl) rfl) (by decide) dX8_count_43 ?_
        refine lv_iload hx hb dX8_count_44 (lv_at hl 1 rfl) ?_
        refine lv_ishl hx hb dX8_count_46 ?_
        refine lv_ior hx hb dX8_count_47 ?_
        refine lv_istore_n (lv' := [(3, .int ((cmf σ p) ||| (σ 1 (40 * p + 5) <<< ((nI p) &&& 31)))), (2, .int ((cmc σ p) + σ 1 (40 * p + 3))), (4, .int (nI p)), (0, .ref (ad 0)), (1, .int a)]) hx hb dX8_count_48 rfl hl (by decide) rfl (fun ls hl => ?_)
        refine lv_iinc (v := (nI (p + 1))) (lv' := [(4, .int (nI (p + 1))), (3, .int ((cmf σ p) ||| (σ 1 (40 * p + 5) <<< ((nI p) &&& 31)))), (2, .int ((cmc σ p) + σ 1 (40 * p + 3))), (0, .ref (ad 0)), (1, .int a)]) hx hb dX8_count_49 hl (k := 2) rfl (mi_add rfl rfl) (by decide) rfl (fun ls hl => ?_)
        refine lv_goto (tgt := 7) hx hb dX8_count_52 (by decide) ?_
        exact ih7  (p + 1) (by omega) (by omega) ls (lv_sub hl [0, 1, 2, 3, 4] rfl)
  exact lp7 (np - 0 + 1) 0 (by omega) (by omega) ls (lv_sub hl [0, 1, 2, 3, 4] rfl)
set_option maxHeartbeats 4000000 in
set_option maxRecDepth 100000 in
theorem mt_X8_most (l : Launch)  (v : Int32) : Met l yX8_most (ws_ yX8_most cX8_most 1 (some .int)) ({ frames := 0, cells := 0, slots := 0, locals := 0 }) (va_Pc [.int v] (fun _ => True)) (vp_Si (fun r : Int32 => r = mst v)) 0 0 (fun _ => False) := by
  refine Met.ofW (cc := cX8_most) (maxL := 1) (ret := (some .int)) (by decide) rfl ?_
  intro pp ee ss mm args below meth cd s₁ B hml hv
  obtain ⟨rfl, -⟩ := hv
  have hx := B.exec
  have hb := B.bytes
  have hr := B.returns
  have hts := atoms_spec (ws := ws_ yX8_most cX8_most 1 (some .int)) B.pre
  have hts : ∀ w ∈ lw_all, w.before _ ss = true := fun w h => hts w (List.mem_cons_of_mem _ h)
  have hown : ss.vm.findClass RX8 = some mm.cls := findClass_of_methodNamed B.named
  have hlocks := B.notSynchronized
  have hl := lv_entry ([.int v]) (n := 1) (Nat.le_of_ble_eq_true rfl)
  rw [lg_entry_eq]
  generalize (lg_sl ([.int v]) ++ List.replicate (1 - (lg_sl ([.int v])).length) Slot.unset).toArray = ls at hl ⊢
  have hl : lv_has ls 1 [(0, .int v)] := hl
  refine lv_iload_n hx hb dX8_most_0 rfl (lv_at hl 0 rfl) ?_
  refine lv_ldc hx hb hown (hts _ q952) dX8_most_1 ?_
  refine lv_icmp_le (tgt := 11) hx hb dX8_most_3 (by decide) (fun c_1 => ?_) (fun c_1 => ?_)
  · skip
    refine lv_iload_n hx hb dX8_most_11 rfl (lv_at hl 0 rfl) ?_
    exact W.iret (v := v) hx hb hr (fun t ht hW => ⟨_, rfl, by dsimp only; rw [mst, if_pos c_1], ht⟩) (fun q hq => by cases hq) dX8_most_12
  · skip
    refine lv_ldc hx hb hown (hts _ q952) dX8_most_6 ?_
    refine lv_goto (tgt := 12) hx hb dX8_most_8 (by decide) ?_
    exact W.iret (v := 999999) hx hb hr (fun t ht hW => ⟨_, rfl, by dsimp only; rw [mst, if_neg c_1], ht⟩) (fun q hq => by cases hq) dX8_most_12
set_option maxHeartbeats 4000000 in
set_option maxRecDepth 100000 in
theorem mt_X8_rests (l : Launch) (D : va_G) (dA : Nat → ClassId) (st : Nat) (hst : st = 1 ∨ st = 2) (ad : Nat → Nat) (N : Nat) (hA : yA ad N) (σ : mMem) (x : Int32) (p : Nat) (hx0 : x = nI p) (hp5 : p < 5) (n : Nat) (hn : σ st (40 * p + 3) = nI n) (hn8 : n ≤ 8) (ld : Nat → Nat) (hld : ∀ c, c < n → σ st (40 * p + 8 + 4 * c) = nI (ld c) ∧ ld c < 5) : Met l yX8_rests (ws_ yX8_rests cX8_rests 6 none) ({ frames := 1, cells := 0, slots := 0, locals := 20 }) (va_Pc [.ref (ad 0), .int x] (mPre D dA (shM st) ad N σ)) (va_Qv (fun (u : mMem) => u = mrs σ st p n ld) (mB D dA (shM st) ad N) (mAd ad N)) 0 0 (mAd ad N) := by
  refine Met.ofW (cc := cX8_rests) (maxL := 6) (ret := none) (by decide) rfl ?_
  intro pp ee ss mm args below meth cd s₁ B hml hv
  obtain ⟨rfl, hP, hE⟩ := hv
  have hx := B.exec
  have hb := B.bytes
  have hr := B.returns
  have hts := atoms_spec (ws := ws_ yX8_rests cX8_rests 6 none) B.pre
  have hts : ∀ w ∈ lw_all, w.before _ ss = true := fun w h => hts w (List.mem_cons_of_mem _ h)
  have hown : ss.vm.findClass RX8 = some mm.cls := findClass_of_methodNamed B.named
  have hlocks := B.notSynchronized
  have hD := hA.2.self
  have hS : va_S (mAd ad N) ss.heap ss.heap [] := va_S.rf
  have hNN := hA.1
  have hl := lv_entry ([.ref (ad 0), .int x]) (n := 6) (Nat.le_of_ble_eq_true rfl)
  rw [lg_entry_eq]
  generalize (lg_sl ([.ref (ad 0), .int x]) ++ List.replicate (6 - (lg_sl ([.ref (ad 0), .int x])).length) Slot.unset).toArray = ls at hl ⊢
  have hl : lv_has ls 6 [(0, .ref (ad 0)), (1, .int x)] := hl
  refine lv_bipush (v := 40) hx hb dX8_rests_0 (by decide) ?_
  refine lv_iload_n hx hb dX8_rests_2 rfl (lv_at hl 1 rfl) ?_
  refine lv_imul hx hb dX8_rests_3 ?_
  refine lv_rwi (mi_mul rfl hx0) ?_
  refine lv_istore_n (lv' := [(2, .int (nI (40 * p))), (0, .ref (ad 0)), (1, .int x)]) hx hb dX8_rests_4 rfl hl (by decide) rfl (fun ls hl => ?_)
  refine lv_iconst (v := 0) hx hb dX8_rests_5 (by decide) ?_
  refine lv_istore_n (lv' := [(3, .int 0), (2, .int (nI (40 * p))), (0, .ref (ad 0)), (1, .int x)]) hx hb dX8_rests_6 rfl hl (by decide) rfl (fun ls hl => ?_)
  refine lv_iconst (v := 0) hx hb dX8_rests_7 (by decide) ?_
  refine lv_istore (lv' := [(4, .int 0), (3, .int 0), (2, .int (nI (40 * p))), (0, .ref (ad 0)), (1, .int x)]) hx hb dX8_rests_8 hl (by decide) rfl (fun ls hl => ?_)
  have lp10 : ∀ (fu : Nat) (c : Nat) (_ : c ≤ n) (_ : n - c < fu) (H : Heap) (locs : List Loc) (_ : va_P D xCl (mW dA (shM st) ad N (va_up σ st (mnc (σ st) (40 * p) c))) H) (_ : va_S (mAd ad N) ss.heap H locs) (ls : Array Slot) (_ : lv_has ls 6 [(4, .int (nI c)), (3, .int (mak σ p ld c)), (2, .int (nI (40 * p))), (0, .ref (ad 0)), (1, .int x)]), W pp l ee (headSpec (ws_ yX8_rests cX8_rests 6 none) ({ frames := 1, cells := 0, slots := 0, locals := 20 })).room ss mm ([.ref (ad 0), .int x] : List Value).toArray below meth cd H locs 0 0 (MQ below (va_Qv (fun (u : mMem) => u = mrs σ st p n ld) (mB D dA (shM st) ad N) (mAd ad N)) ([.ref (ad 0), .int x] : List Value).toArray ss 0 0 (mAd ad N)) (F0 mm 10 ls []) := by
    intro fu
    induction fu with
    | zero => intro c hc hfu; exact absurd hfu (Nat.not_lt_zero _)
    | succ fu ih10 =>
      intro c hc hfu H locs hP hS ls hl
      refine lv_iload hx hb dX8_rests_10 (lv_at hl 0 rfl) ?_
      refine lv_aload_n hx hb dX8_rests_12 rfl (lv_at hl 3 rfl) ?_
      refine mg_ref hx hb hts in_X8 hown hE hP 0 (yl_n hA (by decide)) rfl rfl 3 rfl (by decide) (hts _ q767) (fun _ h9 => h9) dX8_rests_13 ?_
      refine lv_iload_n hx hb dX8_rests_16 rfl (lv_at hl 2 rfl) ?_
      refine lv_iconst (v := 3) hx hb dX8_rests_17 (by decide) ?_
      refine lv_iadd hx hb dX8_rests_18 ?_
      refine mg_ild hx hb hE hP st (yl_st hA hst) (shM_st hst _) (40 * p + 3) (by omega) (mi_add rfl rfl) (by decide) dX8_rests_19 ?_
      refine lv_rwi (congrFun (va_up_self _ _ _) _) ?_
      refine lv_icmp_ge (tgt := 103) hx hb dX8_rests_20 (by decide) (fun c_1 => ?_) (fun c_1 => ?_)
      · have nc_1 : n ≤ c := mi_le ((mnc_ne (by omega)).trans hn) rfl (by omega) (by omega) c_1
        have hcn : c = n := by omega
        refine lv_aload_n hx hb dX8_rests_103 rfl (lv_at hl 3 rfl) ?_
        refine mg_ref hx hb hts in_X8 hown hE hP 0 (yl_n hA (by decide)) rfl rfl 3 rfl (by decide) (hts _ q767) (fun _ h9 => h9) dX8_rests_104 ?_
        refine lv_iload_n hx hb dX8_rests_107 rfl (lv_at hl 2 rfl) ?_
        refine mg_ild hx hb hE hP st (yl_st hA hst) (shM_st hst _) (40 * p) (by omega) rfl (by decide) dX8_rests_108 ?_
        refine lv_rwi (congrFun (va_up_self _ _ _) _) ?_
        refine lv_aload_n hx hb dX8_rests_109 rfl (lv_at hl 3 rfl) ?_
        refine mg_ref hx hb hts in_X8 hown hE hP 0 (yl_n hA (by decide)) rfl rfl 3 rfl (by decide) (hts _ q767) (fun _ h9 => h9) dX8_rests_110 ?_
        refine lv_iload_n hx hb dX8_rests_113 rfl (lv_at hl 2 rfl) ?_
        refine lv_iconst (v := 1) hx hb dX8_rests_114 (by decide) ?_
        refine lv_iadd hx hb dX8_rests_115 ?_
        refine mg_ild hx hb hE hP st (yl_st hA hst) (shM_st hst _) (40 * p + 1) (by omega) (mi_add rfl rfl) (by decide) dX8_rests_116 ?_
        refine lv_rwi (congrFun (va_up_self _ _ _) _) ?_
        refine lv_iadd hx hb dX8_rests_117 ?_
        refine lv_iload_n hx hb dX8_rests_118 rfl (lv_at hl 1 rfl) ?_
        refine lv_isub hx hb dX8_rests_119 ?_
        refine lv_istore (lv' := [(4, .int (((mnc (σ st) (40 * p) c) (40 * p) + (mnc (σ st) (40 * p) c) (40 * p + 1)) - (mak σ p ld c))), (3, .int (mak σ p ld c)), (2, .int (nI (40 * p))), (0, .ref (ad 0)), (1, .int x)]) hx hb dX8_rests_120 hl (by decide) rfl (fun ls hl => ?_)
        refine lv_aload_n hx hb dX8_rests_122 rfl (lv_at hl 3 rfl) ?_
        refine mg_ref hx hb hts in_X8 hown hE hP 0 (yl_n hA (by decide)) rfl rfl 3 rfl (by decide) (hts _ q767) (fun _ h9 => h9) dX8_rests_123 ?_
        refine lv_iload_n hx hb dX8_rests_126 rfl (lv_at hl 2 rfl) ?_
        refine lv_iload hx hb dX8_rests_127 (lv_at hl 0 rfl) ?_
        refine lv_if_ge (tgt := 136) hx hb dX8_rests_129 (by decide) (fun c_2 => ?_) (fun c_2 => ?_)
        · skip
          refine lv_iload hx hb dX8_rests_136 (lv_at hl 0 rfl) ?_
          refine vp_callSi (W.runS (As := [.int (((mnc (σ st) (40 * p) c) (40 * p) + (mnc (σ st) (40 * p) c) (40 * p + 1)) - (mak σ p ld c))]) (rest := [.int (nI (40 * p)), .ref (ad st)]) ⟨hx, hb, hml, hown, hts⟩ (mt_X8_most l (((mnc (σ st) (40 * p) c) (40 * p) + (mnc (σ st) (40 * p) c) (40 * p + 1)) - (mak σ p ld c))) (va_cwS 1 hts (lw_S q949 q950 q55 q951) rfl rfl rfl (by decide +kernel) ⟨Nat.le_of_ble_eq_true rfl, Nat.le_of_ble_eq_true rfl⟩) ⟨fun _ _ _ _ h => h, fun _ _ _ => ⟨rfl, trivial⟩⟩ rfl rfl hl.1 rfl (lv_room (Nat.le_of_ble_eq_true rfl)) dX8_rests_138 ⟨Nat.le_of_ble_eq_true rfl, Nat.le_of_ble_eq_true rfl⟩) (fun r_3 hr_3 => ?_)
          subst hr_3
          refine mg_ist (v := (mst (((mnc (σ st) (40 * p) c) (40 * p) + (mnc (σ st) (40 * p) c) (40 * p + 1)) - (mak σ p ld c)))) hx hb hE hD hP hS st (yl_st hA hst) (shM_st hst _) (40 * p) (by omega) rfl (by decide) dX8_rests_141 (fun H locs hP hS => ?_)
          exact W.vret hx hb hr (fun t ht hW => ⟨⟨_, rfl, by rw [mrs, show n = c by omega, mpu, mnc_ne (by omega), mnc_ne (by omega)]; rw [mnc_ne (by omega), mnc_ne (by omega)] at c_2; rw [if_pos c_2], mB.of ht hP⟩, hS.F ht⟩) hS.2.2 dX8_rests_142
        · skip
          refine lv_iconst (v := 0) hx hb dX8_rests_132 (by decide) ?_
          refine lv_goto (tgt := 141) hx hb dX8_rests_133 (by decide) ?_
          refine mg_ist (v := 0) hx hb hE hD hP hS st (yl_st hA hst) (shM_st hst _) (40 * p) (by omega) rfl (by decide) dX8_rests_141 (fun H locs hP hS => ?_)
          exact W.vret hx hb hr (fun t ht hW => ⟨⟨_, rfl, by rw [mrs, show n = c by omega, mpu]; rw [mnc_ne (by omega), mnc_ne (by omega)] at c_2; rw [if_neg c_2], mB.of ht hP⟩, hS.F ht⟩) hS.2.2 dX8_rests_142
      · have nc_1 : c < n := mi_nle ((mnc_ne (by omega)).trans hn) rfl (by omega) (by omega) c_1
        refine lv_iload_n hx hb dX8_rests_23 rfl (lv_at hl 2 rfl) ?_
        refine lv_bipush (v := 8) hx hb dX8_rests_24 (by decide) ?_
        refine lv_iadd hx hb dX8_rests_26 ?_
        refine lv_iconst (v := 4) hx hb dX8_rests_27 (by decide) ?_
        refine lv_iload hx hb dX8_rests_28 (lv_at hl 0 rfl) ?_
        refine lv_imul hx hb dX8_rests_30 ?_
        refine lv_iadd hx hb dX8_rests_31 ?_
        refine lv_rwi (mi_add (mi_add rfl rfl) (mi_mul rfl rfl)) ?_
        refine lv_istore (lv' := [(5, .int (nI (40 * p + 8 + 4 * c))), (4, .int (nI c)), (3, .int (mak σ p ld c)), (2, .int (nI (40 * p))), (0, .ref (ad 0)), (1, .int x)]) hx hb dX8_rests_32 hl (by decide) rfl (fun ls hl => ?_)
        refine lv_aload_n hx hb dX8_rests_34 rfl (lv_at hl 4 rfl) ?_
        refine mg_ref hx hb hts in_X8 hown hE hP 0 (yl_n hA (by decide)) rfl rfl 3 rfl (by decide) (hts _ q767) (fun _ h9 => h9) dX8_rests_35 ?_
        refine lv_iload hx hb dX8_rests_38 (lv_at hl 0 rfl) ?_
        refine lv_iconst (v := 1) hx hb dX8_rests_40 (by decide) ?_
        refine lv_iadd hx hb dX8_rests_41 ?_
        refine lv_aload_n hx hb dX8_rests_42 rfl (lv_at hl 4 rfl) ?_
        refine mg_ref hx hb hts in_X8 hown hE hP 0 (yl_n hA (by decide)) rfl rfl 3 rfl (by decide) (hts _ q767) (fun _ h9 => h9) dX8_rests_43 ?_
        refine lv_iload hx hb dX8_rests_46 (lv_at hl 0 rfl) ?_
        refine lv_iconst (v := 1) hx hb dX8_rests_48 (by decide) ?_
        refine lv_iadd hx hb dX8_rests_49 ?_
        refine mg_ild hx hb hE hP st (yl_st hA hst) (shM_st hst _) (40 * p + 8 + 4 * c + 1) (by omega) (mi_add rfl rfl) (by decide) dX8_rests_50 ?_
        refine lv_rwi (congrFun (va_up_self _ _ _) _) ?_
        refine lv_aload_n hx hb dX8_rests_51 rfl (lv_at hl 4 rfl) ?_
        refine mg_ref hx hb hts in_X8 hown hE hP 0 (yl_n hA (by decide)) rfl rfl 3 rfl (by decide) (hts _ q767) (fun _ h9 => h9) dX8_rests_52 ?_
        refine lv_iload hx hb dX8_rests_55 (lv_at hl 0 rfl) ?_
        refine lv_iconst (v := 1) hx hb dX8_rests_57 (by decide) ?_
        refine lv_iadd hx hb dX8_rests_58 ?_
        refine mg_ild hx hb hE hP st (yl_st hA hst) (shM_st hst _) (40 * p + 8 + 4 * c + 1) (by omega) (mi_add rfl rfl) (by decide) dX8_rests_59 ?_
        refine lv_rwi (congrFun (va_up_self _ _ _) _) ?_
        refine lv_aload_n hx hb dX8_rests_60 rfl (lv_at hl 4 rfl) ?_
        refine mg_ref hx hb hts in_X8 hown hE hP 0 (yl_n hA (by decide)) rfl rfl 3 rfl (by decide) (hts _ q767) (fun _ h9 => h9) dX8_rests_61 ?_
        refine lv_iload hx hb dX8_rests_64 (lv_at hl 0 rfl) ?_
        refine lv_iconst (v := 2) hx hb dX8_rests_66 (by decide) ?_
        refine lv_iadd hx hb dX8_rests_67 ?_
        refine mg_ild hx hb hE hP st (yl_st hA hst) (shM_st hst _) (40 * p + 8 + 4 * c + 2) (by omega) (mi_add rfl rfl) (by decide) dX8_rests_68 ?_
        refine lv_rwi (congrFun (va_up_self _ _ _) _) ?_
        refine lv_imul hx hb dX8_rests_69 ?_
        refine lv_bipush (v := 100) hx hb dX8_rests_70 (by decide) ?_
        refine lv_idiv hx hb dX8_rests_72 (by decide) ?_
        refine lv_iadd hx hb dX8_rests_73 ?_
        refine vp_callSi (W.runS (As := [.int ((mnc (σ st) (40 * p) c) (40 * p + 8 + 4 * c + 1) + (((mnc (σ st) (40 * p) c) (40 * p + 8 + 4 * c + 1) * (mnc (σ st) (40 * p) c) (40 * p + 8 + 4 * c + 2)) / 100))]) (rest := [.int ((nI (40 * p + 8 + 4 * c)) + 1), .ref (ad st)]) ⟨hx, hb, hml, hown, hts⟩ (mt_X8_most l ((mnc (σ st) (40 * p) c) (40 * p + 8 + 4 * c + 1) + (((mnc (σ st) (40 * p) c) (40 * p + 8 + 4 * c + 1) * (mnc (σ st) (40 * p) c) (40 * p + 8 + 4 * c + 2)) / 100))) (va_cwS 1 hts (lw_S q949 q950 q55 q951) rfl rfl rfl (by decide +kernel) ⟨Nat.le_of_ble_eq_true rfl, Nat.le_of_ble_eq_true rfl⟩) ⟨fun _ _ _ _ h => h, fun _ _ _ => ⟨rfl, trivial⟩⟩ rfl rfl hl.1 rfl (lv_room (Nat.le_of_ble_eq_true rfl)) dX8_rests_74 ⟨Nat.le_of_ble_eq_true rfl, Nat.le_of_ble_eq_true rfl⟩) (fun r_4 hr_4 => ?_)
        subst hr_4
        refine mg_ist (v := (mst ((mnc (σ st) (40 * p) c) (40 * p + 8 + 4 * c + 1) + (((mnc (σ st) (40 * p) c) (40 * p + 8 + 4 * c + 1) * (mnc (σ st) (40 * p) c) (40 * p + 8 + 4 * c + 2)) / 100)))) hx hb hE hD hP hS st (yl_st hA hst) (shM_st hst _) (40 * p + 8 + 4 * c + 1) (by omega) (mi_add rfl rfl) (by decide) dX8_rests_77 (fun H locs hP hS => ?_)
        refine lv_iload_n hx hb dX8_rests_78 rfl (lv_at hl 2 rfl) ?_
        refine lv_aload_n hx hb dX8_rests_79 rfl (lv_at hl 4 rfl) ?_
        refine mg_ref hx hb hts in_X8 hown hE hP 0 (yl_n hA (by decide)) rfl rfl 4 rfl (by decide) (hts _ q768) (fun _ h9 => h9) dX8_rests_80 ?_
        refine lv_iconst (v := 5) hx hb dX8_rests_83 (by decide) ?_
        refine lv_iload_n hx hb dX8_rests_84 rfl (lv_at hl 5 rfl) ?_
        refine lv_imul hx hb dX8_rests_85 ?_
        refine lv_aload_n hx hb dX8_rests_86 rfl (lv_at hl 4 rfl) ?_
        refine mg_ref hx hb hts in_X8 hown hE hP 0 (yl_n hA (by decide)) rfl rfl 3 rfl (by decide) (hts _ q767) (fun _ h9 => h9) dX8_rests_87 ?_
        refine lv_iload hx hb dX8_rests_90 (lv_at hl 0 rfl) ?_
        refine mg_ild hx hb hE hP st (yl_st hA hst) (shM_st hst _) (40 * p + 8 + 4 * c) (by omega) rfl (by decide) dX8_rests_92 ?_
        refine lv_rwi ((mup_ne2 (by omega)).trans (congrFun (va_up_self _ _ _) _)) ?_
        refine lv_iadd hx hb dX8_rests_93 ?_
        refine mg_ild hx hb hE hP 3 (yl_n hA (by decide)) rfl (5 * p + ld c) (by have := (hld c (by omega)).2; omega) (mi_add (mi_mul rfl hx0) ((mnc_ne (by omega)).trans (hld c (by omega)).1)) (by decide) dX8_rests_94 ?_
        refine lv_rwi ((mup_ne1 (by omega)).trans (mv_row (by omega))) ?_
        refine lv_iadd hx hb dX8_rests_95 ?_
        refine lv_istore_n (lv' := [(3, .int ((mak σ p ld c) + σ 3 (5 * p + ld c))), (5, .int (nI (40 * p + 8 + 4 * c))), (4, .int (nI c)), (2, .int (nI (40 * p))), (0, .ref (ad 0)), (1, .int x)]) hx hb dX8_rests_96 rfl hl (by decide) rfl (fun ls hl => ?_)
        refine lv_iinc (v := (nI (c + 1))) (lv' := [(4, .int (nI (c + 1))), (3, .int ((mak σ p ld c) + σ 3 (5 * p + ld c))), (5, .int (nI (40 * p + 8 + 4 * c))), (2, .int (nI (40 * p))), (0, .ref (ad 0)), (1, .int x)]) hx hb dX8_rests_97 hl (k := 2) rfl (mi_add rfl rfl) (by decide) rfl (fun ls hl => ?_)
        refine lv_goto (tgt := 10) hx hb dX8_rests_100 (by decide) ?_
        exact ih10  (c + 1) (by omega) (by omega) _ _ (m_eq (mup_up _ _ _ _ _) hP) hS ls (lv_sub hl [0, 1, 3, 4, 5] rfl)
  exact lp10 (n - 0 + 1) 0 (by omega) (by omega) _ _ (m_eq ((va_up_id rfl).symm) hP) hS ls (lv_sub hl [0, 1, 2, 3, 4] rfl)
set_option maxHeartbeats 4000000 in
set_option maxRecDepth 100000 in
theorem mt_X8_isTooHot (l : Launch) (D : va_G) (dA : Nat → ClassId) (st : Nat) (hst : st = 1 ∨ st = 2) (ad : Nat → Nat) (N : Nat) (hA : yA ad N) (σ : mMem) (x : Int32) (p : Nat) (hx0 : x = nI p) (hp5 : p < 5) (y : Int32) (dy : Nat) (hy0 : y = nI dy) (hdy : dy < 360) (n : Nat) (hn : σ st (40 * p + 3) = nI n) (hn8 : n ≤ 8) : Met l yX8_isTooHot (ws_ yX8_isTooHot cX8_isTooHot 4 (some .boolean)) ({ frames := 1, cells := 0, slots := 0, locals := 23 }) (va_Pc [.ref (ad 0), .int x, .int y] (mPre D dA (shM st) ad N σ)) (vp_Si (fun r : Int32 => r = bi (mxm (σ st (40 * p + 2) - σ 4 (dy / 30)) < thk (fun k => σ st (40 * p + 8 + k)) n))) 0 0 (fun _ => False) := by
  refine Met.ofW (cc := cX8_isTooHot) (maxL := 4) (ret := (some .boolean)) (by decide) rfl ?_
  intro pp ee ss mm args below meth cd s₁ B hml hv
  obtain ⟨rfl, hP, hE⟩ := hv
  have hx := B.exec
  have hb := B.bytes
  have hr := B.returns
  have hts := atoms_spec (ws := ws_ yX8_isTooHot cX8_isTooHot 4 (some .boolean)) B.pre
  have hts : ∀ w ∈ lw_all, w.before _ ss = true := fun w h => hts w (List.mem_cons_of_mem _ h)
  have hown : ss.vm.findClass RX8 = some mm.cls := findClass_of_methodNamed B.named
  have hlocks := B.notSynchronized
  have hNN := hA.1
  have hl := lv_entry ([.ref (ad 0), .int x, .int y]) (n := 4) (Nat.le_of_ble_eq_true rfl)
  rw [lg_entry_eq]
  generalize (lg_sl ([.ref (ad 0), .int x, .int y]) ++ List.replicate (4 - (lg_sl ([.ref (ad 0), .int x, .int y])).length) Slot.unset).toArray = ls at hl ⊢
  have hl : lv_has ls 4 [(0, .ref (ad 0)), (1, .int x), (2, .int y)] := hl
  refine lv_aload_n hx hb dX8_isTooHot_0 rfl (lv_at hl 0 rfl) ?_
  refine mg_ref hx hb hts in_X8 hown hE hP 0 (yl_n hA (by decide)) rfl rfl 3 rfl (by decide) (hts _ q767) (fun _ h9 => h9) dX8_isTooHot_1 ?_
  refine lv_bipush (v := 40) hx hb dX8_isTooHot_4 (by decide) ?_
  refine lv_iload_n hx hb dX8_isTooHot_6 rfl (lv_at hl 1 rfl) ?_
  refine lv_imul hx hb dX8_isTooHot_7 ?_
  refine lv_iconst (v := 2) hx hb dX8_isTooHot_8 (by decide) ?_
  refine lv_iadd hx hb dX8_isTooHot_9 ?_
  refine mg_ild hx hb hE hP st (yl_st hA hst) (shM_st hst _) (40 * p + 2) (by omega) (mi_add (mi_mul rfl hx0) rfl) (by decide) dX8_isTooHot_10 ?_
  refine lv_aload_n hx hb dX8_isTooHot_11 rfl (lv_at hl 0 rfl) ?_
  refine mg_ref hx hb hts in_X8 hown hE hP 0 (yl_n hA (by decide)) rfl rfl 5 rfl (by decide) (hts _ q769) (fun _ h9 => h9) dX8_isTooHot_12 ?_
  refine lv_iload_n hx hb dX8_isTooHot_15 rfl (lv_at hl 2 rfl) ?_
  refine lv_bipush (v := 30) hx hb dX8_isTooHot_16 (by decide) ?_
  refine lv_idiv hx hb dX8_isTooHot_18 (by decide) ?_
  refine mg_ild hx hb hE hP 4 (yl_n hA (by decide)) rfl (dy / 30) (by omega) (mi_div (a := dy) (b := 30) hy0 rfl (by omega) (by omega) (by omega)) (by decide) dX8_isTooHot_19 ?_
  refine lv_isub hx hb dX8_isTooHot_20 ?_
  refine lv_istore_n (lv' := [(3, .int (σ st (40 * p + 2) - σ 4 (dy / 30))), (0, .ref (ad 0)), (1, .int x), (2, .int y)]) hx hb dX8_isTooHot_21 rfl hl (by decide) rfl (fun ls hl => ?_)
  refine lv_aload_n hx hb dX8_isTooHot_22 rfl (lv_at hl 1 rfl) ?_
  refine lv_iload_n hx hb dX8_isTooHot_23 rfl (lv_at hl 2 rfl) ?_
  refine vp_callSi (W.runV (As := [.int x]) (rest := []) ⟨hx, hb, hml, hown, hts⟩ (mt_X8_thickOf l D dA st hst ad N hA σ x p hx0 (by omega) n hn (by omega)) (cwV 1 hts (lw_V q868 q870 qs21 q55 q871) rfl rfl rfl (by decide +kernel) ⟨Nat.le_of_ble_eq_true rfl, Nat.le_of_ble_eq_true rfl⟩) ⟨mPre.blind, m_recv hE hP 0 (yl_n hA (by decide)) rfl rfl, mPre.at hE hP⟩ rfl rfl hl.1 rfl (lv_room (Nat.le_of_ble_eq_true rfl)) dX8_isTooHot_24 ⟨Nat.le_of_ble_eq_true rfl, Nat.le_of_ble_eq_true rfl⟩) (fun r_1 hr_1 => ?_)
  subst hr_1
  refine lv_iload_n hx hb dX8_isTooHot_27 rfl (lv_at hl 0 rfl) ?_
  refine lv_if_ge (tgt := 35) hx hb dX8_isTooHot_28 (by decide) (fun c_2 => ?_) (fun c_2 => ?_)
  · skip
    refine lv_iload_n hx hb dX8_isTooHot_35 rfl (lv_at hl 0 rfl) ?_
    refine lv_icmp_le (tgt := 43) hx hb dX8_isTooHot_36 (by decide) (fun c_3 => ?_) (fun c_3 => ?_)
    · skip
      refine lv_iconst (v := 0) hx hb dX8_isTooHot_43 (by decide) ?_
      exact W.zret (v := 0) hx hb hr rfl (fun t ht hW => ⟨_, rfl, bi_0 (by rw [mxm, if_pos c_2]; exact Int32.not_lt.mpr c_3), ht⟩) (fun q hq => by cases hq) dX8_isTooHot_44
    · skip
      refine lv_iconst (v := 1) hx hb dX8_isTooHot_39 (by decide) ?_
      refine lv_goto (tgt := 44) hx hb dX8_isTooHot_40 (by decide) ?_
      exact W.zret (v := 1) hx hb hr rfl (fun t ht hW => ⟨_, rfl, bi_1 (by rw [mxm, if_pos c_2]; exact Int32.not_le.mp c_3), ht⟩) (fun q hq => by cases hq) dX8_isTooHot_44
  · skip
    refine lv_iconst (v := 0) hx hb dX8_isTooHot_31 (by decide) ?_
    refine lv_goto (tgt := 36) hx hb dX8_isTooHot_32 (by decide) ?_
    refine lv_icmp_le (tgt := 43) hx hb dX8_isTooHot_36 (by decide) (fun c_4 => ?_) (fun c_4 => ?_)
    · skip
      refine lv_iconst (v := 0) hx hb dX8_isTooHot_43 (by decide) ?_
      exact W.zret (v := 0) hx hb hr rfl (fun t ht hW => ⟨_, rfl, bi_0 (by rw [mxm, if_neg c_2]; exact Int32.not_lt.mpr c_4), ht⟩) (fun q hq => by cases hq) dX8_isTooHot_44
    · skip
      refine lv_iconst (v := 1) hx hb dX8_isTooHot_39 (by decide) ?_
      refine lv_goto (tgt := 44) hx hb dX8_isTooHot_40 (by decide) ?_
      exact W.zret (v := 1) hx hb hr rfl (fun t ht hW => ⟨_, rfl, bi_1 (by rw [mxm, if_neg c_2]; exact Int32.not_le.mp c_4), ht⟩) (fun q hq => by cases hq) dX8_isTooHot_44
