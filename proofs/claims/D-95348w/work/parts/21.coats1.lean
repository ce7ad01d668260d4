def ows (f : Nat → Int32) (g : Int32) : Nat → Int32
  | 0 => 0
  | c + 1 => ows f g c + (if g < 0 ∨ f (4 * c) = g then f (4 * c + 1) else 0)
def owm (x : Int32) : Int32 := if x < 9999999 then x else 9999999
def ofX (σ : mMem) (w n : Nat) (a : Int32) : Int32 := if a = 0 then σ w 0 else if a = 1 then σ w 1 else if a = 2 then σ w 2 else if a = 3 then σ w 6 else if a = 4 then thk (σ (w + 2)) n else if a = 5 then owm (ows (σ (w + 2)) (-4) n) else if a = 6 then σ w 3 else -1
def cnc (σ : mMem) : Nat → Int32
  | 0 => 0
  | p + 1 => cnc σ p + σ (30 + 3 * p) 6
def cnf (σ : mMem) : Nat → Int32
  | 0 => 0
  | p + 1 => cnf σ p ||| (if σ (30 + 3 * p) 3 < 0 then 0 else (1 : Int32) <<< (nI p &&& 31))
def cntX (σ : mMem) (np : Nat) (a : Int32) : Int32 := if a = 0 then σ 1 3 else if a = 1 then σ 1 4 else if a = 2 then cnc σ np else if a = 3 then cnf σ np else if a = 4 then σ 1 5 else if a = 5 then σ 0 19 else -1
set_option maxHeartbeats 4000000 in
set_option maxRecDepth 100000 in
theorem mt_X0_isIn (l : Launch)  (v a b : Int32) : Met l yX0_isIn (ws_ yX0_isIn cX0_isIn 3 (some .boolean)) ({ frames := 0, cells := 0, slots := 0, locals := 0 }) (va_Pc [.int v, .int a, .int b] (fun _ => True)) (vp_Si (fun r : Int32 => r = bi (a ≤ v ∧ v ≤ b))) 0 0 (fun _ => False) := by
  refine Met.ofW (cc := cX0_isIn) (maxL := 3) (ret := (some .boolean)) (by decide) rfl ?_
  intro pp ee ss mm args below meth cd s₁ B hml hv
  obtain ⟨rfl, -⟩ := hv
  have hx := B.exec
  have hb := B.bytes
  have hr := B.returns
  have hts := atoms_spec (ws := ws_ yX0_isIn cX0_isIn 3 (some .boolean)) B.pre
  have hts : ∀ w ∈ lw_all, w.before _ ss = true := fun w h => hts w (List.mem_cons_of_mem _ h)
  have hown : ss.vm.findClass RX0 = some mm.cls := findClass_of_methodNamed B.named
  have hlocks := B.notSynchronized
  have hl := lv_entry ([.int v, .int a, .int b]) (n := 3) (Nat.le_of_ble_eq_true rfl)
  rw [lg_entry_eq]
  generalize (lg_sl ([.int v, .int a, .int b]) ++ List.replicate (3 - (lg_sl ([.int v, .int a, .int b])).length) Slot.unset).toArray = ls at hl ⊢
  have hl : lv_has ls 3 [(0, .int v), (1, .int a), (2, .int b)] := hl
  refine lv_iload_n hx hb dX0_isIn_0 rfl (lv_at hl 0 rfl) ?_
  refine lv_iload_n hx hb dX0_isIn_1 rfl (lv_at hl 1 rfl) ?_
  refine lv_icmp_lt (tgt := 14) hx hb dX0_isIn_2 (by decide) (fun c_1 => ?_) (fun c_1 => ?_)
  · skip
    refine lv_iconst (v := 0) hx hb dX0_isIn_14 (by decide) ?_
    exact W.zret (v := 0) hx hb hr rfl (fun t ht hW => ⟨_, rfl, bi_0 (fun q => Int32.not_lt.mpr q.1 c_1), ht⟩) (fun q hq => by cases hq) dX0_isIn_15
  · skip
    refine lv_iload_n hx hb dX0_isIn_5 rfl (lv_at hl 0 rfl) ?_
    refine lv_iload_n hx hb dX0_isIn_6 rfl (lv_at hl 2 rfl) ?_
    refine lv_icmp_gt (tgt := 14) hx hb dX0_isIn_7 (by decide) (fun c_2 => ?_) (fun c_2 => ?_)
    · skip
      refine lv_iconst (v := 0) hx hb dX0_isIn_14 (by decide) ?_
      exact W.zret (v := 0) hx hb hr rfl (fun t ht hW => ⟨_, rfl, bi_0 (fun q => Int32.not_lt.mpr q.2 c_2), ht⟩) (fun q hq => by cases hq) dX0_isIn_15
    · skip
      refine lv_iconst (v := 1) hx hb dX0_isIn_10 (by decide) ?_
      refine lv_goto (tgt := 15) hx hb dX0_isIn_11 (by decide) ?_
      exact W.zret (v := 1) hx hb hr rfl (fun t ht hW => ⟨_, rfl, bi_1 ⟨Int32.not_lt.mp c_1, Int32.not_lt.mp c_2⟩, ht⟩) (fun q hq => by cases hq) dX0_isIn_15
set_option maxHeartbeats 4000000 in
set_option maxRecDepth 100000 in
theorem mt_X0_isLender (l : Launch)  (v : Int32) : Met l yX0_isLender (ws_ yX0_isLender cX0_isLender 1 (some .boolean)) ({ frames := 1, cells := 0, slots := 0, locals := 22 }) (va_Pc [.int v] (fun _ => True)) (vp_Si (fun r : Int32 => r = bi (ik v 5))) 0 0 (fun _ => False) := by
  refine Met.ofW (cc := cX0_isLender) (maxL := 1) (ret := (some .boolean)) (by decide) rfl ?_
  intro pp ee ss mm args below meth cd s₁ B hml hv
  obtain ⟨rfl, -⟩ := hv
  have hx := B.exec
  have hb := B.bytes
  have hr := B.returns
  have hts := atoms_spec (ws := ws_ yX0_isLender cX0_isLender 1 (some .boolean)) B.pre
  have hts : ∀ w ∈ lw_all, w.before _ ss = true := fun w h => hts w (List.mem_cons_of_mem _ h)
  have hown : ss.vm.findClass RX0 = some mm.cls := findClass_of_methodNamed B.named
  have hlocks := B.notSynchronized
  have hl := lv_entry ([.int v]) (n := 1) (Nat.le_of_ble_eq_true rfl)
  rw [lg_entry_eq]
  generalize (lg_sl ([.int v]) ++ List.replicate (1 - (lg_sl ([.int v])).length) Slot.unset).toArray = ls at hl ⊢
  have hl : lv_has ls 1 [(0, .int v)] := hl
  refine lv_iload_n hx hb dX0_isLender_0 rfl (lv_at hl 0 rfl) ?_
  refine lv_iconst (v := 0) hx hb dX0_isLender_1 (by decide) ?_
  refine lv_iconst (v := 4) hx hb dX0_isLender_2 (by decide) ?_
  refine vp_callSi (W.runS (As := [.int v, .int 0, .int 4]) (rest := []) ⟨hx, hb, hml, hown, hts⟩ (mt_X0_isIn l v 0 4) (va_cwS 3 hts (lw_S q344 q345 q45 q346) rfl rfl rfl (by decide +kernel) ⟨Nat.le_of_ble_eq_true rfl, Nat.le_of_ble_eq_true rfl⟩) ⟨fun _ _ _ _ h => h, fun _ _ _ => ⟨rfl, trivial⟩⟩ rfl rfl hl.1 rfl (lv_room (Nat.le_of_ble_eq_true rfl)) dX0_isLender_3 ⟨Nat.le_of_ble_eq_true rfl, Nat.le_of_ble_eq_true rfl⟩) (fun r_1 hr_1 => ?_)
  subst hr_1
  refine lv_rwi (bi_c (ik_of (n := 5) rfl rfl)) ?_
  exact W.zret (v := (bi (ik v 5))) hx hb hr bi_nar (fun t ht hW => ⟨_, rfl, rfl, ht⟩) (fun q hq => by cases hq) dX0_isLender_6
set_option maxHeartbeats 4000000 in
set_option maxRecDepth 100000 in
theorem mt_X0_isSheet (l : Launch)  (v : Int32) : Met l yX0_isSheet (ws_ yX0_isSheet cX0_isSheet 1 (some .boolean)) ({ frames := 1, cells := 0, slots := 0, locals := 22 }) (va_Pc [.int v] (fun _ => True)) (vp_Si (fun r : Int32 => r = bi (ik v 4))) 0 0 (fun _ => False) := by
  refine Met.ofW (cc := cX0_isSheet) (maxL := 1) (ret := (some .boolean)) (by decide) rfl ?_
  intro pp ee ss mm args below meth cd s₁ B hml hv
  obtain ⟨rfl, -⟩ := hv
  have hx := B.exec
  have hb := B.bytes
  have hr := B.returns
  have hts := atoms_spec (ws := ws_ yX0_isSheet cX0_isSheet 1 (some .boolean)) B.pre
  have hts : ∀ w ∈ lw_all, w.before _ ss = true := fun w h => hts w (List.mem_cons_of_mem _ h)
  have hown : ss.vm.findClass RX0 = some mm.cls := findClass_of_methodNamed B.named
  have hlocks := B.notSynchronized
  have hl := lv_entry ([.int v]) (n := 1) (Nat.le_of_ble_eq_true rfl)
  rw [lg_entry_eq]
  generalize (lg_sl ([.int v]) ++ List.replicate (1 - (lg_sl ([.int v])).length) Slot.unset).toArray = ls at hl ⊢
  have hl : lv_has ls 1 [(0, .int v)] := hl
  refine lv_iload_n hx hb dX0_isSheet_0 rfl (lv_at hl 0 rfl) ?_
  refine lv_iconst (v := 0) hx hb dX0_isSheet_1 (by decide) ?_
  refine lv_iconst (v := 3) hx hb dX0_isSheet_2 (by decide) ?_
  refine vp_callSi (W.runS (As := [.int v, .int 0, .int 3]) (rest := []) ⟨hx, hb, hml, hown, hts⟩ (mt_X0_isIn l v 0 3) (va_cwS 3 hts (lw_S q344 q345 q45 q346) rfl rfl rfl (by decide +kernel) ⟨Nat.le_of_ble_eq_true rfl, Nat.le_of_ble_eq_true rfl⟩) ⟨fun _ _ _ _ h => h, fun _ _ _ => ⟨rfl, trivial⟩⟩ rfl rfl hl.1 rfl (lv_room (Nat.le_of_ble_eq_true rfl)) dX0_isSheet_3 ⟨Nat.le_of_ble_eq_true rfl, Nat.le_of_ble_eq_true rfl⟩) (fun r_1 hr_1 => ?_)
  subst hr_1
  refine lv_rwi (bi_c (ik_of (n := 4) rfl rfl)) ?_
  exact W.zret (v := (bi (ik v 4))) hx hb hr bi_nar (fun t ht hW => ⟨_, rfl, rfl, ht⟩) (fun q hq => by cases hq) dX0_isSheet_6
set_option maxHeartbeats 4000000 in
set_option maxRecDepth 100000 in
theorem mt_X0_isLane (l : Launch)  (v : Int32) : Met l yX0_isLane (ws_ yX0_isLane cX0_isLane 1 (some .boolean)) ({ frames := 1, cells := 0, slots := 0, locals := 22 }) (va_Pc [.int v] (fun _ => True)) (vp_Si (fun r : Int32 => r = bi (ik v 3))) 0 0 (fun _ => False) := by
  refine Met.ofW (cc := cX0_isLane) (maxL := 1) (ret := (some .boolean)) (by decide) rfl ?_
  intro pp ee ss mm args below meth cd s₁ B hml hv
  obtain ⟨rfl, -⟩ := hv
  have hx := B.exec
  have hb := B.bytes
  have hr := B.returns
  have hts := atoms_spec (ws := ws_ yX0_isLane cX0_isLane 1 (some .boolean)) B.pre
  have hts : ∀ w ∈ lw_all, w.before _ ss = true := fun w h => hts w (List.mem_cons_of_mem _ h)
  have hown : ss.vm.findClass RX0 = some mm.cls := findClass_of_methodNamed B.named
  have hlocks := B.notSynchronized
  have hl := lv_entry ([.int v]) (n := 1) (Nat.le_of_ble_eq_true rfl)
  rw [lg_entry_eq]
  generalize (lg_sl ([.int v]) ++ List.replicate (1 - (lg_sl ([.int v])).length) Slot.unset).toArray = ls at hl ⊢
  have hl : lv_has ls 1 [(0, .int v)] := hl
  refine lv_iload_n hx hb dX0_isLane_0 rfl (lv_at hl 0 rfl) ?_
  refine lv_iconst (v := 0) hx hb dX0_isLane_1 (by decide) ?_
  refine lv_iconst (v := 2) hx hb dX0_isLane_2 (by decide) ?_
  refine vp_callSi (W.runS (As := [.int v, .int 0, .int 2]) (rest := []) ⟨hx, hb, hml, hown, hts⟩ (mt_X0_isIn l v 0 2) (va_cwS 3 hts (lw_S q344 q345 q45 q346) rfl rfl rfl (by decide +kernel) ⟨Nat.le_of_ble_eq_true rfl, Nat.le_of_ble_eq_true rfl⟩) ⟨fun _ _ _ _ h => h, fun _ _ _ => ⟨rfl, trivial⟩⟩ rfl rfl hl.1 rfl (lv_room (Nat.le_of_ble_eq_true rfl)) dX0_isLane_3 ⟨Nat.le_of_ble_eq_true rfl, Nat.le_of_ble_eq_true rfl⟩) (fun r_1 hr_1 => ?_)
  subst hr_1
  refine lv_rwi (bi_c (ik_of (n := 3) rfl rfl)) ?_
  exact W.zret (v := (bi (ik v 3))) hx hb hr bi_nar (fun t ht hW => ⟨_, rfl, rfl, ht⟩) (fun q hq => by cases hq) dX0_isLane_6
set_option maxHeartbeats 4000000 in
set_option maxRecDepth 100000 in
theorem mt_X0_has (l : Launch)  (a b : Int32) : Met l yX0_has (ws_ yX0_has cX0_has 2 (some .boolean)) ({ frames := 0, cells := 0, slots := 0, locals := 0 }) (va_Pc [.int a, .int b] (fun _ => True)) (vp_Si (fun r : Int32 => r = bi (((a >>> (b &&& 31)) &&& 1) = 1))) 0 0 (fun _ => False) := by
  refine Met.ofW (cc := cX0_has) (maxL := 2) (ret := (some .boolean)) (by decide) rfl ?_
  intro pp ee ss mm args below meth cd s₁ B hml hv
  obtain ⟨rfl, -⟩ := hv
  have hx := B.exec
  have hb := B.bytes
  have hr := B.returns
  have hts := atoms_spec (ws := ws_ yX0_has cX0_has 2 (some .boolean)) B.pre
  have hts : ∀ w ∈ lw_all, w.before _ ss = true := fun w h => hts w (List.mem_cons_of_mem _ h)
  have hown : ss.vm.findClass RX0 = some mm.cls := findClass_of_methodNamed B.named
  have hlocks := B.notSynchronized
  have hl := lv_entry ([.int a, .int b]) (n := 2) (Nat.le_of_ble_eq_true rfl)
  rw [lg_entry_eq]
  generalize (lg_sl ([.int a, .int b]) ++ List.replicate (2 - (lg_sl ([.int a, .int b])).length) Slot.unset).toArray = ls at hl ⊢
  have hl : lv_has ls 2 [(0, .int a), (1, .int b)] := hl
  refine lv_iload_n hx hb dX0_has_0 rfl (lv_at hl 0 rfl) ?_
  refine lv_iload_n hx hb dX0_has_1 rfl (lv_at hl 1 rfl) ?_
  refine lv_ishr hx hb dX0_has_2 ?_
  refine lv_iconst (v := 1) hx hb dX0_has_3 (by decide) ?_
  refine lv_iand hx hb dX0_has_4 ?_
  refine lv_iconst (v := 1) hx hb dX0_has_5 (by decide) ?_
  refine lv_icmp_ne (tgt := 13) hx hb dX0_has_6 (by decide) (fun c_1 => ?_) (fun c_1 => ?_)
  · skip
    refine lv_iconst (v := 0) hx hb dX0_has_13 (by decide) ?_
    exact W.zret (v := 0) hx hb hr rfl (fun t ht hW => ⟨_, rfl, bi_0 c_1, ht⟩) (fun q hq => by cases hq) dX0_has_14
  · skip
    refine lv_iconst (v := 1) hx hb dX0_has_9 (by decide) ?_
    refine lv_goto (tgt := 14) hx hb dX0_has_10 (by decide) ?_
    exact W.zret (v := 1) hx hb hr rfl (fun t ht hW => ⟨_, rfl, bi_1 c_1, ht⟩) (fun q hq => by cases hq) dX0_has_14
set_option maxHeartbeats 4000000 in
set_option maxRecDepth 100000 in
theorem mt_X0_isPerson (l : Launch) (D : va_G) (dA : Nat → ClassId) (rr : Nat → Option Nat) (xs : Nat → mSh) (ad : Nat → Nat) (N : Nat) (hA : xA ad N) (σ : mMem) (p : Int32) (np : Nat) (hn : σ 1 3 = nI np) (hn5 : np ≤ 5) : Met l yX0_isPerson (ws_ yX0_isPerson cX0_isPerson 2 (some .boolean)) ({ frames := 1, cells := 0, slots := 0, locals := 22 }) (va_Pc [.ref (ad 0), .int p] (mPre D dA (shX rr xs) ad N σ)) (vp_Si (fun r : Int32 => r = bi (ik p np))) 0 0 (fun _ => False) := by
  refine Met.ofW (cc := cX0_isPerson) (maxL := 2) (ret := (some .boolean)) (by decide) rfl ?_
  intro pp ee ss mm args below meth cd s₁ B hml hv
  obtain ⟨rfl, hP, hE⟩ := hv
  have hx := B.exec
  have hb := B.bytes
  have hr := B.returns
  have hts := atoms_spec (ws := ws_ yX0_isPerson cX0_isPerson 2 (some .boolean)) B.pre
  have hts : ∀ w ∈ lw_all, w.before _ ss = true := fun w h => hts w (List.mem_cons_of_mem _ h)
  have hown : ss.vm.findClass RX0 = some mm.cls := findClass_of_methodNamed B.named
  have hlocks := B.notSynchronized
  have hNN := hA.1
  have hl := lv_entry ([.ref (ad 0), .int p]) (n := 2) (Nat.le_of_ble_eq_true rfl)
  rw [lg_entry_eq]
  generalize (lg_sl ([.ref (ad 0), .int p]) ++ List.replicate (2 - (lg_sl ([.ref (ad 0), .int p])).length) Slot.unset).toArray = ls at hl ⊢
  have hl : lv_has ls 2 [(0, .ref (ad 0)), (1, .int p)] := hl
  refine lv_iload_n hx hb dX0_isPerson_0 rfl (lv_at hl 1 rfl) ?_
  refine lv_iconst (v := 0) hx hb dX0_isPerson_1 (by decide) ?_
  refine lv_aload_n hx hb dX0_isPerson_2 rfl (lv_at hl 0 rfl) ?_
  refine mg_ref hx hb hts in_X0 hown hE hP 0 (xl_n hA (by decide)) rfl rfl 1 rfl (by decide) (hts _ q265) (fun _ h9 => h9) dX0_isPerson_3 ?_
  refine mg_getN hx hb hts in_X4 hown hE hP 1 (xl_n hA (by decide)) rfl rfl 3 rfl (by decide) q151 (fun _ h9 => h9) dX0_isPerson_6 ?_
  refine lv_iconst (v := 1) hx hb dX0_isPerson_9 (by decide) ?_
  refine lv_isub hx hb dX0_isPerson_10 ?_
  refine vp_callSi (W.runS (As := [.int p, .int 0, .int (σ 1 3 - 1)]) (rest := []) ⟨hx, hb, hml, hown, hts⟩ (mt_X0_isIn l p 0 (σ 1 3 - 1)) (va_cwS 3 hts (lw_S q344 q345 q45 q346) rfl rfl rfl (by decide +kernel) ⟨Nat.le_of_ble_eq_true rfl, Nat.le_of_ble_eq_true rfl⟩) ⟨fun _ _ _ _ h => h, fun _ _ _ => ⟨rfl, trivial⟩⟩ rfl rfl hl.1 rfl (lv_room (Nat.le_of_ble_eq_true rfl)) dX0_isPerson_11 ⟨Nat.le_of_ble_eq_true rfl, Nat.le_of_ble_eq_true rfl⟩) (fun r_1 hr_1 => ?_)
  subst hr_1
  exact W.zret (v := (bi (0 ≤ p ∧ p ≤ (σ 1 3 - 1)))) hx hb hr bi_nar (fun t ht hW => ⟨_, rfl, bi_c (ik_of rfl (nI_m1 hn (by omega))), ht⟩) (fun q hq => by cases hq) dX0_isPerson_14
set_option maxHeartbeats 4000000 in
set_option maxRecDepth 100000 in
theorem mt_X0_isCoat (l : Launch) (D : va_G) (dA : Nat → ClassId) (rr : Nat → Option Nat) (xs : Nat → mSh) (ad : Nat → Nat) (N : Nat) (hA : xA ad N) (σ : mMem) (p c : Int32) (np : Nat) (nc : Nat → Nat) (ld : Nat → Nat → Nat) (hF : xF σ np nc ld) : Met l yX0_isCoat (ws_ yX0_isCoat cX0_isCoat 3 (some .boolean)) ({ frames := 2, cells := 0, slots := 0, locals := 43 }) (va_Pc [.ref (ad 0), .int p, .int c] (mPre D dA (shX rr xs) ad N σ)) (vp_Si (fun r : Int32 => r = bi (ik p np ∧ ik c (nc (tn p))))) 0 0 (fun _ => False) := by
  refine Met.ofW (cc := cX0_isCoat) (maxL := 3) (ret := (some .boolean)) (by decide) rfl ?_
  intro pp ee ss mm args below meth cd s₁ B hml hv
  obtain ⟨rfl, hP, hE⟩ := hv
  have hx := B.exec
  have hb := B.bytes
  have hr := B.returns
  have hts := atoms_spec (ws := ws_ yX0_isCoat cX0_isCoat 3 (some .boolean)) B.pre
  have hts : ∀ w ∈ lw_all, w.before _ ss = true := fun w h => hts w (List.mem_cons_of_mem _ h)
  have hown : ss.vm.findClass RX0 = some mm.cls := findClass_of_methodNamed B.named
  have hlocks := B.notSynchronized
  have hNN := hA.1
  have hn5 := hF.n5
  have hl := lv_entry ([.ref (ad 0), .int p, .int c]) (n := 3) (Nat.le_of_ble_eq_true rfl)
  rw [lg_entry_eq]
  generalize (lg_sl ([.ref (ad 0), .int p, .int c]) ++ List.replicate (3 - (lg_sl ([.ref (ad 0), .int p, .int c])).length) Slot.unset).toArray = ls at hl ⊢
  have hl : lv_has ls 3 [(0, .ref (ad 0)), (1, .int p), (2, .int c)] := hl
  refine lv_aload_n hx hb dX0_isCoat_0 rfl (lv_at hl 0 rfl) ?_
  refine lv_iload_n hx hb dX0_isCoat_1 rfl (lv_at hl 1 rfl) ?_
  refine vp_callSi (W.runV (As := [.int p]) (rest := []) ⟨hx, hb, hml, hown, hts⟩ (mt_X0_isPerson l D dA rr xs ad N hA σ p np hF.n hF.n5) (cwV 1 hts (lw_V q355 q357 qs2 q45 q358) rfl rfl rfl (by decide +kernel) ⟨Nat.le_of_ble_eq_true rfl, Nat.le_of_ble_eq_true rfl⟩) ⟨mPre.blind, m_recv hE hP 0 (xl_n hA (by decide)) rfl rfl, mPre.at hE hP⟩ rfl rfl hl.1 rfl (lv_room (Nat.le_of_ble_eq_true rfl)) dX0_isCoat_2 ⟨Nat.le_of_ble_eq_true rfl, Nat.le_of_ble_eq_true rfl⟩) (fun r_1 hr_1 => ?_)
  subst hr_1
  refine lv_if_eq (tgt := 34) hx hb dX0_isCoat_5 (by decide) (fun c_2 => ?_) (fun c_2 => ?_)
  · have c_2 : ¬ (ik p np) := bi_f c_2
    refine lv_iconst (v := 0) hx hb dX0_isCoat_34 (by decide) ?_
    exact W.zret (v := 0) hx hb hr rfl (fun t ht hW => ⟨_, rfl, bi_0 (fun q => c_2 q.1), ht⟩) (fun q hq => by cases hq) dX0_isCoat_35
  · have c_2 : ik p np := bi_t c_2
    have c_2_lt := ik_lt c_2
    have c_2_m := hF.m c_2_lt
    have c_2_8 := hF.m8 c_2_lt
    refine lv_iload_n hx hb dX0_isCoat_8 rfl (lv_at hl 2 rfl) ?_
    refine lv_iconst (v := 0) hx hb dX0_isCoat_9 (by decide) ?_
    refine lv_aload_n hx hb dX0_isCoat_10 rfl (lv_at hl 0 rfl) ?_
    refine mg_ref hx hb hts in_X0 hown hE hP 0 (xl_n hA (by decide)) rfl rfl 1 rfl (by decide) (hts _ q265) (fun _ h9 => h9) dX0_isCoat_11 ?_
    refine mg_refN hx hb hts in_X4 hown hE hP 1 (xl_n hA (by decide)) rfl rfl 0 rfl (by decide) q145 (fun _ h9 => h9) dX0_isCoat_14 ?_
    refine lv_iload_n hx hb dX0_isCoat_17 rfl (lv_at hl 1 rfl) ?_
    refine mg_ald hx hb hE hP 4 (xl_n hA (by decide)) rfl rfl (tn p) (by omega) (ik_eq c_2) (by decide) rfl dX0_isCoat_18 ?_
    refine mg_getN hx hb hts in_X5 hown hE hP (30 + 3 * (tn p)) (xl_o hA (xw_p0 (p := tn p) (by omega))) (shX_o (xw_p0 (p := tn p) (by omega))) rfl 6 rfl (by decide) q127 (fun _ h9 => h9) dX0_isCoat_19 ?_
    refine lv_iconst (v := 1) hx hb dX0_isCoat_22 (by decide) ?_
    refine lv_isub hx hb dX0_isCoat_23 ?_
    refine vp_callSi (W.runS (As := [.int c, .int 0, .int (σ (30 + 3 * (tn p)) 6 - 1)]) (rest := []) ⟨hx, hb, hml, hown, hts⟩ (mt_X0_isIn l c 0 (σ (30 + 3 * (tn p)) 6 - 1)) (va_cwS 3 hts (lw_S q344 q345 q45 q346) rfl rfl rfl (by decide +kernel) ⟨Nat.le_of_ble_eq_true rfl, Nat.le_of_ble_eq_true rfl⟩) ⟨fun _ _ _ _ h => h, fun _ _ _ => ⟨rfl, trivial⟩⟩ rfl rfl hl.1 rfl (lv_room (Nat.le_of_ble_eq_true rfl)) dX0_isCoat_24 ⟨Nat.le_of_ble_eq_true rfl, Nat.le_of_ble_eq_true rfl⟩) (fun r_3 hr_3 => ?_)
    subst hr_3
    refine lv_rwi (bi_c (ik_of rfl (nI_m1 c_2_m (by omega)))) ?_
    refine lv_if_eq (tgt := 34) hx hb dX0_isCoat_27 (by decide) (fun c_4 => ?_) (fun c_4 => ?_)
    · have c_4 : ¬ (ik c (nc (tn p))) := bi_f c_4
      refine lv_iconst (v := 0) hx hb dX0_isCoat_34 (by decide) ?_
      exact W.zret (v := 0) hx hb hr rfl (fun t ht hW => ⟨_, rfl, bi_0 (fun q => c_4 q.2), ht⟩) (fun q hq => by cases hq) dX0_isCoat_35
    · have c_4 : ik c (nc (tn p)) := bi_t c_4
      have c_4_lt := ik_lt c_4
      refine lv_iconst (v := 1) hx hb dX0_isCoat_30 (by decide) ?_
      refine lv_goto (tgt := 35) hx hb dX0_isCoat_31 (by decide) ?_
      exact W.zret (v := 1) hx hb hr rfl (fun t ht hW => ⟨_, rfl, bi_1 ⟨c_2, c_4⟩, ht⟩) (fun q hq => by cases hq) dX0_isCoat_35
set_option maxHeartbeats 4000000 in
set_option maxRecDepth 100000 in
theorem mt_X0_person (l : Launch) (D : va_G) (dA : Nat → ClassId) (rr : Nat → Option Nat) (xs : Nat → mSh) (ad : Nat → Nat) (N : Nat) (hA : xA ad N) (σ : mMem) (a1 a2 a3 : Int32) (np : Nat) (nc : Nat → Nat) (ld : Nat → Nat → Nat) (hF : xF σ np nc ld) : Met l yX0_person (ws_ yX0_person cX0_person 4 (some .int)) ({ frames := 1, cells := 0, slots := 0, locals := 24 }) (va_Pc [.ref (ad 0), .int a1, .int a2, .int a3] (mPre D dA (shX rr xs) ad N σ)) (va_Qi (fun (r : Int32) (u : mMem) => (if ik a1 10000 then (if ik a2 100 then (if iv a3 1 60 then (if np = 5 then (r = -3 ∧ u = σ) else (r = nI np ∧ u = (mup (va_up (mup (mup (mup (mup (mup σ (30 + 3 * np) 0 a1) (30 + 3 * np) 1 a2) (30 + 3 * np) 2 a3) (30 + 3 * np) 3 (-4)) (30 + 3 * np) 6 0) (30 + 3 * np + 1) (zt (σ (30 + 3 * np + 1)) 5)) 1 3 (nI (np + 1))))) else (r = -1 ∧ u = σ)) else (r = -1 ∧ u = σ)) else (r = -1 ∧ u = σ))) (mB D dA (shX rr xs) ad N) (mAd ad N)) 0 0 (mAd ad N) := by
  refine Met.ofW (cc := cX0_person) (maxL := 4) (ret := (some .int)) (by decide) rfl ?_
  intro pp ee ss mm args below meth cd s₁ B hml hv
  obtain ⟨rfl, hP, hE⟩ := hv
  have hx := B.exec
  have hb := B.bytes
  have hr := B.returns
  have hts := atoms_spec (ws := ws_ yX0_person cX0_person 4 (some .int)) B.pre
  have hts : ∀ w ∈ lw_all, w.before _ ss = true := fun w h => hts w (List.mem_cons_of_mem _ h)
  have hown : ss.vm.findClass RX0 = some mm.cls := findClass_of_methodNamed B.named
  have hlocks := B.notSynchronized
  have hD := hA.2.self
  have hS : va_S (mAd ad N) ss.heap ss.heap [] := va_S.rf
  have hNN := hA.1
  have hn5 := hF.n5
  have hl := lv_entry ([.ref (ad 0), .int a1, .int a2, .int a3]) (n := 4) (Nat.le_of_ble_eq_true rfl)
  rw [lg_entry_eq]
  generalize (lg_sl ([.ref (ad 0), .int a1, .int a2, .int a3]) ++ List.replicate (4 - (lg_sl ([.ref (ad 0), .int a1, .int a2, .int a3])).length) Slot.unset).toArray = ls at hl ⊢
  have hl : lv_has ls 4 [(0, .ref (ad 0)), (1, .int a1), (2, .int a2), (3, .int a3)] := hl
  refine lv_iload_n hx hb dX0_person_0 rfl (lv_at hl 1 rfl) ?_
  refine lv_iconst (v := 0) hx hb dX0_person_1 (by decide) ?_
  refine lv_sipush (v := 9999) hx hb dX0_person_2 (by decide) ?_
  refine vp_callSi (W.runS (As := [.int a1, .int 0, .int 9999]) (rest := []) ⟨hx, hb, hml, hown, hts⟩ (mt_X0_isIn l a1 0 9999) (va_cwS 3 hts (lw_S q344 q345 q45 q346) rfl rfl rfl (by decide +kernel) ⟨Nat.le_of_ble_eq_true rfl, Nat.le_of_ble_eq_true rfl⟩) ⟨fun _ _ _ _ h => h, fun _ _ _ => ⟨rfl, trivial⟩⟩ rfl rfl hl.1 rfl (lv_room (Nat.le_of_ble_eq_true rfl)) dX0_person_5 ⟨Nat.le_of_ble_eq_true rfl, Nat.le_of_ble_eq_true rfl⟩) (fun r_1 hr_1 => ?_)
  subst hr_1
  refine lv_rwi (bi_c (ik_of (n := 10000) rfl rfl)) ?_
  refine lv_if_eq (tgt := 31) hx hb dX0_person_8 (by decide) (fun c_2 => ?_) (fun c_2 => ?_)
  · have c_2 : ¬ (ik a1 10000) := bi_f c_2
    refine lv_iconst (v := (-1)) hx hb dX0_person_31 (by decide) ?_
    exact W.iret (v := (-1)) hx hb hr (fun t ht hW => ⟨⟨_, _, rfl, by dsimp only; rw [if_neg c_2]; exact ⟨rfl, rfl⟩, mB.of ht hP⟩, hS.F ht⟩) hS.2.2 dX0_person_32
  · have c_2 : ik a1 10000 := bi_t c_2
    have c_2_lt := ik_lt c_2
    refine lv_iload_n hx hb dX0_person_11 rfl (lv_at hl 2 rfl) ?_
    refine lv_iconst (v := 0) hx hb dX0_person_12 (by decide) ?_
    refine lv_bipush (v := 99) hx hb dX0_person_13 (by decide) ?_
    refine vp_callSi (W.runS (As := [.int a2, .int 0, .int 99]) (rest := []) ⟨hx, hb, hml, hown, hts⟩ (mt_X0_isIn l a2 0 99) (va_cwS 3 hts (lw_S q344 q345 q45 q346) rfl rfl rfl (by decide +kernel) ⟨Nat.le_of_ble_eq_true rfl, Nat.le_of_ble_eq_true rfl⟩) ⟨fun _ _ _ _ h => h, fun _ _ _ => ⟨rfl, trivial⟩⟩ rfl rfl hl.1 rfl (lv_room (Nat.le_of_ble_eq_true rfl)) dX0_person_15 ⟨Nat.le_of_ble_eq_true rfl, Nat.le_of_ble_eq_true rfl⟩) (fun r_3 hr_3 => ?_)
    subst hr_3
    refine lv_rwi (bi_c (ik_of (n := 100) rfl rfl)) ?_
    refine lv_if_eq (tgt := 31) hx hb dX0_person_18 (by decide) (fun c_4 => ?_) (fun c_4 => ?_)
    · have c_4 : ¬ (ik a2 100) := bi_f c_4
      refine lv_iconst (v := (-1)) hx hb dX0_person_31 (by decide) ?_
      exact W.iret (v := (-1)) hx hb hr (fun t ht hW => ⟨⟨_, _, rfl, by dsimp only; rw [if_pos c_2, if_neg c_4]; exact ⟨rfl, rfl⟩, mB.of ht hP⟩, hS.F ht⟩) hS.2.2 dX0_person_32
    · have c_4 : ik a2 100 := bi_t c_4
      have c_4_lt := ik_lt c_4
      refine lv_iload_n hx hb dX0_person_21 rfl (lv_at hl 3 rfl) ?_
      refine lv_iconst (v := 1) hx hb dX0_person_22 (by decide) ?_
      refine lv_bipush (v := 60) hx hb dX0_person_23 (by decide) ?_
      refine vp_callSi (W.runS (As := [.int a3, .int 1, .int 60]) (rest := []) ⟨hx, hb, hml, hown, hts⟩ (mt_X0_isIn l a3 1 60) (va_cwS 3 hts (lw_S q344 q345 q45 q346) rfl rfl rfl (by decide +kernel) ⟨Nat.le_of_ble_eq_true rfl, Nat.le_of_ble_eq_true rfl⟩) ⟨fun _ _ _ _ h => h, fun _ _ _ => ⟨rfl, trivial⟩⟩ rfl rfl hl.1 rfl (lv_room (Nat.le_of_ble_eq_true rfl)) dX0_person_25 ⟨Nat.le_of_ble_eq_true rfl, Nat.le_of_ble_eq_true rfl⟩) (fun r_5 hr_5 => ?_)
      subst hr_5
      refine lv_rwi (bi_c (iv_of rfl rfl)) ?_
      refine lv_if_ne (tgt := 33) hx hb dX0_person_28 (by decide) (fun c_6 => ?_) (fun c_6 => ?_)
      · have c_6 : iv a3 1 60 := bi_t c_6
        have c_6_tn := iv_tn c_6 (by decide)
        refine lv_aload_n hx hb dX0_person_33 rfl (lv_at hl 0 rfl) ?_
        refine mg_ref hx hb hts in_X0 hown hE hP 0 (xl_n hA (by decide)) rfl rfl 1 rfl (by decide) (hts _ q265) (fun _ h9 => h9) dX0_person_34 ?_
        refine mg_getN hx hb hts in_X4 hown hE hP 1 (xl_n hA (by decide)) rfl rfl 3 rfl (by decide) q151 (fun _ h9 => h9) dX0_person_37 ?_
        refine lv_iconst (v := 5) hx hb dX0_person_40 (by decide) ?_
        refine lv_icmp_ne (tgt := 47) hx hb dX0_person_41 (by decide) (fun c_7 => ?_) (fun c_7 => ?_)
        · have nc_7 : np ≠ 5 := mi_ne hF.n rfl (by omega) (by omega) c_7
          refine lv_aload_n hx hb dX0_person_47 rfl (lv_at hl 0 rfl) ?_
          refine mg_ref hx hb hts in_X0 hown hE hP 0 (xl_n hA (by decide)) rfl rfl 1 rfl (by decide) (hts _ q265) (fun _ h9 => h9) dX0_person_48 ?_
          refine mg_refN hx hb hts in_X4 hown hE hP 1 (xl_n hA (by decide)) rfl rfl 0 rfl (by decide) q145 (fun _ h9 => h9) dX0_person_51 ?_
          refine lv_aload_n hx hb dX0_person_54 rfl (lv_at hl 0 rfl) ?_
          refine mg_ref hx hb hts in_X0 hown hE hP 0 (xl_n hA (by decide)) rfl rfl 1 rfl (by decide) (hts _ q265) (fun _ h9 => h9) dX0_person_55 ?_
          refine mg_getN hx hb hts in_X4 hown hE hP 1 (xl_n hA (by decide)) rfl rfl 3 rfl (by decide) q151 (fun _ h9 => h9) dX0_person_58 ?_
          refine mg_ald hx hb hE hP 4 (xl_n hA (by decide)) rfl rfl np (by omega) hF.n (by decide) rfl dX0_person_61 ?_
          refine lv_iload_n hx hb dX0_person_62 rfl (lv_at hl 1 rfl) ?_
          refine lv_iload_n hx hb dX0_person_63 rfl (lv_at hl 2 rfl) ?_
          refine lv_iload_n hx hb dX0_person_64 rfl (lv_at hl 3 rfl) ?_
          refine va_callv (va_runV (As := [.int a1, .int a2, .int a3]) (rest := []) ⟨hx, hb, hml, hown, hts⟩ (mt_X5_lay l D dA rr xs ad N hA σ (30 + 3 * np) (xw_p0 (p := np) (by omega)) a1 a2 a3) (cwV 3 hts (lw_V q347 q348 q349 q50 q350) rfl rfl rfl (by decide +kernel) ⟨Nat.le_of_ble_eq_true rfl, Nat.le_of_ble_eq_true rfl⟩) ⟨mPre.blind, m_recv hE hP (30 + 3 * np) (xl_o hA (xw_p0 (p := np) (by omega))) (shX_o (xw_p0 (p := np) (by omega))) rfl, mPre.at hE hP⟩ rfl rfl hl.1 rfl (lv_room (Nat.le_of_ble_eq_true rfl)) dX0_person_65 ⟨Nat.le_of_ble_eq_true rfl, Nat.le_of_ble_eq_true rfl⟩) hS (fun q _ h => h) (fun q h => h) (fun ur_8 tr_8 H locs ht h0 hr_8 hB h1 h2 hS => ?_)
          subst hr_8
          have hP := mB.get ht hB
          refine lv_aload_n hx hb dX0_person_68 rfl (lv_at hl 0 rfl) ?_
          refine mg_ref hx hb hts in_X0 hown hE hP 0 (xl_n hA (by decide)) rfl rfl 1 rfl (by decide) (hts _ q265) (fun _ h9 => h9) dX0_person_69 ?_
          refine lv_dup hx hb dX0_person_72 rfl ?_
          refine mg_getN hx hb hts in_X4 hown hE hP 1 (xl_n hA (by decide)) rfl rfl 3 rfl (by decide) q151 (fun _ h9 => h9) dX0_person_73 ?_
          refine lv_rwi ((mv_row (by omega)).trans ((mup_ne1 (by omega)).trans ((mup_ne1 (by omega)).trans ((mup_ne1 (by omega)).trans ((mup_ne1 (by omega)).trans (mup_ne1 (by omega))))))) ?_
          refine lv_iconst (v := 1) hx hb dX0_person_76 (by decide) ?_
          refine lv_iadd hx hb dX0_person_77 ?_
          refine lv_rwi (mi_add hF.n rfl) ?_
          refine mg_putN (v := (nI (np + 1))) (ty := .int) hx hb hts in_X4 tyX4 tyX4_ok nmX4 hown hE hD hP hS 1 (xl_n hA (by decide)) rfl rfl 3 rfl (by decide) q151 (fun _ h9 => h9) rfl (by decide +kernel) rfl rfl dX0_person_78 (fun H locs hP hS => ?_)
          refine lv_aload_n hx hb dX0_person_81 rfl (lv_at hl 0 rfl) ?_
          refine mg_ref hx hb hts in_X0 hown hE hP 0 (xl_n hA (by decide)) rfl rfl 1 rfl (by decide) (hts _ q265) (fun _ h9 => h9) dX0_person_82 ?_
          refine mg_getN hx hb hts in_X4 hown hE hP 1 (xl_n hA (by decide)) rfl rfl 3 rfl (by decide) q151 (fun _ h9 => h9) dX0_person_85 ?_
          refine lv_rwi (mup_self _ _ _ _) ?_
          refine lv_iconst (v := 1) hx hb dX0_person_88 (by decide) ?_
          refine lv_isub hx hb dX0_person_89 ?_
          exact W.iret (v := ((nI (np + 1)) - 1)) hx hb hr (fun t ht hW => ⟨⟨_, _, rfl, by dsimp only; rw [if_pos c_2, if_pos c_4, if_pos c_6, if_neg nc_7]; exact ⟨nI_pred np, rfl⟩, mB.of ht hP⟩, hS.F ht⟩) hS.2.2 dX0_person_90
        · have nc_7 : np = 5 := mi_eq hF.n rfl (by omega) (by omega) c_7
          refine lv_bipush (v := (-3)) hx hb dX0_person_44 (by decide) ?_
          exact W.iret (v := (-3)) hx hb hr (fun t ht hW => ⟨⟨_, _, rfl, by dsimp only; rw [if_pos c_2, if_pos c_4, if_pos c_6, if_pos nc_7]; exact ⟨rfl, rfl⟩, mB.of ht hP⟩, hS.F ht⟩) hS.2.2 dX0_person_46
      · have c_6 : ¬ (iv a3 1 60) := bi_f c_6
        refine lv_iconst (v := (-1)) hx hb dX0_person_31 (by decide) ?_
        exact W.iret (v := (-1)) hx hb hr (fun t ht hW => ⟨⟨_, _, rfl, by dsimp only; rw [if_pos c_2, if_pos c_4, if_neg c_6]; exact ⟨rfl, rfl⟩, mB.of ht hP⟩, hS.F ht⟩) hS.2.2 dX0_person_32
set_option maxHeartbeats 4000000 in
set_option maxRecDepth 100000 in
theorem mt_X0_owedBy (l : Launch) (D : va_G) (dA : Nat → ClassId) (rr : Nat → Option Nat) (xs : Nat → mSh) (ad : Nat → Nat) (N : Nat) (hA : xA ad N) (σ : mMem) (w : Nat) (hw : xw w) (g : Int32) (n : Nat) (hn : σ w 6 = nI n) (hn8 : n ≤ 8) : Met l yX0_owedBy (ws_ yX0_owedBy cX0_owedBy 4 (some .int)) ({ frames := 1, cells := 0, slots := 0, locals := 21 }) (va_Pc [.ref (ad w), .int g] (mPre D dA (shX rr xs) ad N σ)) (vp_Si (fun r : Int32 => r = owm (ows (σ (w + 2)) g n))) 0 0 (fun _ => False) := by
  refine Met.ofW (cc := cX0_owedBy) (maxL := 4) (ret := (some .int)) (by decide) rfl ?_
  intro pp ee ss mm args below meth cd s₁ B hml hv
  obtain ⟨rfl, hP, hE⟩ := hv
  have hx := B.exec
  have hb := B.bytes
  have hr := B.returns
  have hts := atoms_spec (ws := ws_ yX0_owedBy cX0_owedBy 4 (some .int)) B.pre
  have hts : ∀ w ∈ lw_all, w.before _ ss = true := fun w h => hts w (List.mem_cons_of_mem _ h)
  have hown : ss.vm.findClass RX0 = some mm.cls := findClass_of_methodNamed B.named
  have hlocks := B.notSynchronized
  have hNN := hA.1
  obtain ⟨hw1, hw2, hw3⟩ := id hw
  have hl := lv_entry ([.ref (ad w), .int g]) (n := 4) (Nat.le_of_ble_eq_true rfl)
  rw [lg_entry_eq]
  generalize (lg_sl ([.ref (ad w), .int g]) ++ List.replicate (4 - (lg_sl ([.ref (ad w), .int g])).length) Slot.unset).toArray = ls at hl ⊢
  have hl : lv_has ls 4 [(0, .ref (ad w)), (1, .int g)] := hl
  refine lv_iconst (v := 0) hx hb dX0_owedBy_0 (by decide) ?_
  refine lv_istore_n (lv' := [(2, .int 0), (0, .ref (ad w)), (1, .int g)]) hx hb dX0_owedBy_1 rfl hl (by decide) rfl (fun ls hl => ?_)
  refine lv_iconst (v := 0) hx hb dX0_owedBy_2 (by decide) ?_
  refine lv_istore_n (lv' := [(3, .int 0), (2, .int 0), (0, .ref (ad w)), (1, .int g)]) hx hb dX0_owedBy_3 rfl hl (by decide) rfl (fun ls hl => ?_)
  have lp4 : ∀ (fu : Nat) (c : Nat) (S : Int32) (_ : c ≤ n) (_ : S = ows (σ (w + 2)) g c) (_ : n - c < fu) (ls : Array Slot) (_ : lv_has ls 4 [(3, .int (nI c)), (2, .int S), (0, .ref (ad w)), (1, .int g)]), W pp l ee (headSpec (ws_ yX0_owedBy cX0_owedBy 4 (some .int)) ({ frames := 1, cells := 0, slots := 0, locals := 21 })).room ss mm ([.ref (ad w), .int g] : List Value).toArray below meth cd ss.heap [] 0 0 (MQ below (vp_Si (fun r : Int32 => r = owm (ows (σ (w + 2)) g n))) ([.ref (ad w), .int g] : List Value).toArray ss 0 0 (fun _ => False)) (F0 mm 4 ls []) := by
    intro fu
    induction fu with
    | zero => intro c S hc hS0 hfu; exact absurd hfu (Nat.not_lt_zero _)
    | succ fu ih4 =>
      intro c S hc hS0 hfu ls hl
      refine lv_iload_n hx hb dX0_owedBy_4 rfl (lv_at hl 0 rfl) ?_
      refine lv_aload_n hx hb dX0_owedBy_5 rfl (lv_at hl 2 rfl) ?_
      refine mg_getN hx hb hts in_X5 hown hE hP w (xl_o hA hw) (shX_o hw) rfl 6 rfl (by decide) q127 (fun _ h9 => h9) dX0_owedBy_6 ?_
      refine lv_icmp_ge (tgt := 43) hx hb dX0_owedBy_9 (by decide) (fun c_1 => ?_) (fun c_1 => ?_)
      · have nc_1 : n ≤ c := mi_le hn rfl (by omega) (by omega) c_1
        refine lv_ldc hx hb hown (hts _ q374) dX0_owedBy_43 ?_
        refine lv_iload_n hx hb dX0_owedBy_45 rfl (lv_at hl 1 rfl) ?_
        refine va_mmin hx hb (by rw [hml]; exact hl.1.symm) hown (hts _ q375) (hts _ q376) (hts _ q56) (hts _ q377) (Nat.le_of_ble_eq_true rfl) (Nat.le_of_ble_eq_true rfl) (Nat.le_of_ble_eq_true rfl) (Nat.le_of_ble_eq_true rfl) dX0_owedBy_46 ?_
        exact W.iret (v := (if S < 9999999 then S else 9999999)) hx hb hr (fun t ht hW => ⟨_, rfl, by rw [hS0, show c = n by omega]; rfl, ht⟩) (fun q hq => by cases hq) dX0_owedBy_49
      · have nc_1 : c < n := mi_nle hn rfl (by omega) (by omega) c_1
        refine lv_iload_n hx hb dX0_owedBy_12 rfl (lv_at hl 1 rfl) ?_
        refine lv_iload_n hx hb dX0_owedBy_13 rfl (lv_at hl 3 rfl) ?_
        refine lv_if_lt (tgt := 26) hx hb dX0_owedBy_14 (by decide) (fun c_2 => ?_) (fun c_2 => ?_)
        · skip
          refine lv_aload_n hx hb dX0_owedBy_26 rfl (lv_at hl 2 rfl) ?_
          refine lv_iload_n hx hb dX0_owedBy_27 rfl (lv_at hl 0 rfl) ?_
          refine vp_callSi (W.runV (As := [.int (nI c)]) (rest := [.int S]) ⟨hx, hb, hml, hown, hts⟩ (mt_X5_amount l D dA rr xs ad N hA σ w hw (nI c) c rfl (by omega)) (cwV 1 hts (lw_V q370 q371 q372 q50 q373) rfl rfl rfl (by decide +kernel) ⟨Nat.le_of_ble_eq_true rfl, Nat.le_of_ble_eq_true rfl⟩) ⟨mPre.blind, m_recv hE hP w (xl_o hA hw) (shX_o hw) rfl, mPre.at hE hP⟩ rfl rfl hl.1 rfl (lv_room (Nat.le_of_ble_eq_true rfl)) dX0_owedBy_28 ⟨Nat.le_of_ble_eq_true rfl, Nat.le_of_ble_eq_true rfl⟩) (fun r_3 hr_3 => ?_)
          subst hr_3
          refine lv_goto (tgt := 35) hx hb dX0_owedBy_31 (by decide) ?_
          refine lv_iadd hx hb dX0_owedBy_35 ?_
          refine lv_istore_n (lv' := [(2, .int (S + σ (w + 2) (4 * c + 1))), (3, .int (nI c)), (0, .ref (ad w)), (1, .int g)]) hx hb dX0_owedBy_36 rfl hl (by decide) rfl (fun ls hl => ?_)
          refine lv_iinc (v := (nI (c + 1))) (lv' := [(3, .int (nI (c + 1))), (2, .int (S + σ (w + 2) (4 * c + 1))), (0, .ref (ad w)), (1, .int g)]) hx hb dX0_owedBy_37 hl (k := 1) rfl (mi_add rfl rfl) (by decide) rfl (fun ls hl => ?_)
          refine lv_goto (tgt := 4) hx hb dX0_owedBy_40 (by decide) ?_
          exact ih4  (c + 1) (S + σ (w + 2) (4 * c + 1)) (by omega) (by rw [hS0, ows]; simp [c_1, c_2]) (by omega) ls (lv_sub hl [0, 1, 2, 3] rfl)
        · skip
          refine lv_aload_n hx hb dX0_owedBy_17 rfl (lv_at hl 2 rfl) ?_
          refine lv_iload_n hx hb dX0_owedBy_18 rfl (lv_at hl 0 rfl) ?_
          refine vp_callSi (W.runV (As := [.int (nI c)]) (rest := [.int S]) ⟨hx, hb, hml, hown, hts⟩ (mt_X5_lender l D dA rr xs ad N hA σ w hw (nI c) c rfl (by omega)) (cwV 1 hts (lw_V q366 q367 q368 q50 q369) rfl rfl rfl (by decide +kernel) ⟨Nat.le_of_ble_eq_true rfl, Nat.le_of_ble_eq_true rfl⟩) ⟨mPre.blind, m_recv hE hP w (xl_o hA hw) (shX_o hw) rfl, mPre.at hE hP⟩ rfl rfl hl.1 rfl (lv_room (Nat.le_of_ble_eq_true rfl)) dX0_owedBy_19 ⟨Nat.le_of_ble_eq_true rfl, Nat.le_of_ble_eq_true rfl⟩) (fun r_4 hr_4 => ?_)
          subst hr_4
          refine lv_iload_n hx hb dX0_owedBy_22 rfl (lv_at hl 3 rfl) ?_
          refine lv_icmp_ne (tgt := 34) hx hb dX0_owedBy_23 (by decide) (fun c_5 => ?_) (fun c_5 => ?_)
          · skip
            refine lv_iconst (v := 0) hx hb dX0_owedBy_34 (by decide) ?_
            refine lv_iadd hx hb dX0_owedBy_35 ?_
            refine lv_istore_n (lv' := [(2, .int (S + 0)), (3, .int (nI c)), (0, .ref (ad w)), (1, .int g)]) hx hb dX0_owedBy_36 rfl hl (by decide) rfl (fun ls hl => ?_)
            refine lv_iinc (v := (nI (c + 1))) (lv' := [(3, .int (nI (c + 1))), (2, .int (S + 0)), (0, .ref (ad w)), (1, .int g)]) hx hb dX0_owedBy_37 hl (k := 1) rfl (mi_add rfl rfl) (by decide) rfl (fun ls hl => ?_)
            refine lv_goto (tgt := 4) hx hb dX0_owedBy_40 (by decide) ?_
            exact ih4  (c + 1) (S + 0) (by omega) (by rw [hS0, ows]; simp [c_1, c_2, c_5]) (by omega) ls (lv_sub hl [0, 1, 2, 3] rfl)
          · skip
            refine lv_aload_n hx hb dX0_owedBy_26 rfl (lv_at hl 2 rfl) ?_
            refine lv_iload_n hx hb dX0_owedBy_27 rfl (lv_at hl 0 rfl) ?_
            refine vp_callSi (W.runV (As := [.int (nI c)]) (rest := [.int S]) ⟨hx, hb, hml, hown, hts⟩ (mt_X5_amount l D dA rr xs ad N hA σ w hw (nI c) c rfl (by omega)) (cwV 1 hts (lw_V q370 q371 q372 q50 q373) rfl rfl rfl (by decide +kernel) ⟨Nat.le_of_ble_eq_true rfl, Nat.le_of_ble_eq_true rfl⟩) ⟨mPre.blind, m_recv hE hP w (xl_o hA hw) (shX_o hw) rfl, mPre.at hE hP⟩ rfl rfl hl.1 rfl (lv_room (Nat.le_of_ble_eq_true rfl)) dX0_owedBy_28 ⟨Nat.le_of_ble_eq_true rfl, Nat.le_of_ble_eq_true rfl⟩) (fun r_6 hr_6 => ?_)
            subst hr_6
            refine lv_goto (tgt := 35) hx hb dX0_owedBy_31 (by decide) ?_
            refine lv_iadd hx hb dX0_owedBy_35 ?_
            refine lv_istore_n (lv' := [(2, .int (S + σ (w + 2) (4 * c + 1))), (3, .int (nI c)), (0, .ref (ad w)), (1, .int g)]) hx hb dX0_owedBy_36 rfl hl (by decide) rfl (fun ls hl => ?_)
            refine lv_iinc (v := (nI (c + 1))) (lv' := [(3, .int (nI (c + 1))), (2, .int (S + σ (w + 2) (4 * c + 1))), (0, .ref (ad w)), (1, .int g)]) hx hb dX0_owedBy_37 hl (k := 1) rfl (mi_add rfl rfl) (by decide) rfl (fun ls hl => ?_)
            refine lv_goto (tgt := 4) hx hb dX0_owedBy_40 (by decide) ?_
            exact ih4  (c + 1) (S + σ (w + 2) (4 * c + 1)) (by omega) (by rw [hS0, ows]; simp [c_1, c_2, c_5]) (by omega) ls (lv_sub hl [0, 1, 2, 3] rfl)
  exact lp4 (n - 0 + 1) 0 0 (by omega) rfl (by omega) ls (lv_sub hl [0, 1, 2, 3] rfl)
set_option maxHeartbeats 4000000 in
set_option maxRecDepth 100000 in
theorem mt_X0_of (l : Launch) (D : va_G) (dA : Nat → ClassId) (rr : Nat → Option Nat) (xs : Nat → mSh) (ad : Nat → Nat) (N : Nat) (hA : xA ad N) (σ : mMem) (p a : Int32) (np : Nat) (nc : Nat → Nat) (ld : Nat → Nat → Nat) (hF : xF σ np nc ld) : Met l yX0_of (ws_ yX0_of cX0_of 4 (some .int)) ({ frames := 2, cells := 0, slots := 0, locals := 44 }) (va_Pc [.ref (ad 0), .int p, .int a] (mPre D dA (shX rr xs) ad N σ)) (vp_Si (fun r : Int32 => r = (if ik p np then ofX σ (30 + 3 * tn p) (nc (tn p)) a else -1))) 0 0 (fun _ => False) := by
  refine Met.ofW (cc := cX0_of) (maxL := 4) (ret := (some .int)) (by decide) rfl ?_
  intro pp ee ss mm args below meth cd s₁ B hml hv
  obtain ⟨rfl, hP, hE⟩ := hv
  have hx := B.exec
  have hb := B.bytes
  have hr := B.returns
  have hts := atoms_spec (ws := ws_ yX0_of cX0_of 4 (some .int)) B.pre
  have hts : ∀ w ∈ lw_all, w.before _ ss = true := fun w h => hts w (List.mem_cons_of_mem _ h)
  have hown : ss.vm.findClass RX0 = some mm.cls := findClass_of_methodNamed B.named
  have hlocks := B.notSynchronized
  have hNN := hA.1
  have hn5 := hF.n5
  have hl := lv_entry ([.ref (ad 0), .int p, .int a]) (n := 4) (Nat.le_of_ble_eq_true rfl)
  rw [lg_entry_eq]
  generalize (lg_sl ([.ref (ad 0), .int p, .int a]) ++ List.replicate (4 - (lg_sl ([.ref (ad 0), .int p, .int a])).length) Slot.unset).toArray = ls at hl ⊢
  have hl : lv_has ls 4 [(0, .ref (ad 0)), (1, .int p), (2, .int a)] := hl
  refine lv_aload_n hx hb dX0_of_0 rfl (lv_at hl 0 rfl) ?_
  refine lv_iload_n hx hb dX0_of_1 rfl (lv_at hl 1 rfl) ?_
  refine vp_callSi (W.runV (As := [.int p]) (rest := []) ⟨hx, hb, hml, hown, hts⟩ (mt_X0_isPerson l D dA rr xs ad N hA σ p np hF.n hF.n5) (cwV 1 hts (lw_V q355 q357 qs2 q45 q358) rfl rfl rfl (by decide +kernel) ⟨Nat.le_of_ble_eq_true rfl, Nat.le_of_ble_eq_true rfl⟩) ⟨mPre.blind, m_recv hE hP 0 (xl_n hA (by decide)) rfl rfl, mPre.at hE hP⟩ rfl rfl hl.1 rfl (lv_room (Nat.le_of_ble_eq_true rfl)) dX0_of_2 ⟨Nat.le_of_ble_eq_true rfl, Nat.le_of_ble_eq_true rfl⟩) (fun r_1 hr_1 => ?_)
  subst hr_1
  refine lv_if_ne (tgt := 10) hx hb dX0_of_5 (by decide) (fun c_2 => ?_) (fun c_2 => ?_)
  · have c_2 : ik p np := bi_t c_2
    have c_2_lt := ik_lt c_2
    have c_2_m := hF.m c_2_lt
    have c_2_8 := hF.m8 c_2_lt
    refine lv_aload_n hx hb dX0_of_10 rfl (lv_at hl 0 rfl) ?_
    refine mg_ref hx hb hts in_X0 hown hE hP 0 (xl_n hA (by decide)) rfl rfl 1 rfl (by decide) (hts _ q265) (fun _ h9 => h9) dX0_of_11 ?_
    refine mg_refN hx hb hts in_X4 hown hE hP 1 (xl_n hA (by decide)) rfl rfl 0 rfl (by decide) q145 (fun _ h9 => h9) dX0_of_14 ?_
    refine lv_iload_n hx hb dX0_of_17 rfl (lv_at hl 1 rfl) ?_
    refine mg_ald hx hb hE hP 4 (xl_n hA (by decide)) rfl rfl (tn p) (by omega) (ik_eq c_2) (by decide) rfl dX0_of_18 ?_
    refine lv_astore_n (lv' := [(3, .ref (ad (30 + 3 * (tn p)))), (0, .ref (ad 0)), (1, .int p), (2, .int a)]) hx hb dX0_of_19 rfl hl (by decide) rfl (fun ls hl => ?_)
    refine lv_iload_n hx hb dX0_of_20 rfl (lv_at hl 3 rfl) ?_
    by_cases sw_3 : a = 0
    · refine lv_rwi sw_3 ?_
      refine lv_tableIn (tgt := 64) hx hb dX0_of_21 (by decide) (by decide) rfl (by decide) ?_
      refine lv_aload_n hx hb dX0_of_64 rfl (lv_at hl 0 rfl) ?_
      refine mg_getN hx hb hts in_X5 hown hE hP (30 + 3 * (tn p)) (xl_o hA (xw_p0 (p := tn p) (by omega))) (shX_o (xw_p0 (p := tn p) (by omega))) rfl 0 rfl (by decide) q112 (fun _ h9 => h9) dX0_of_65 ?_
      exact W.iret (v := σ (30 + 3 * (tn p)) 0) hx hb hr (fun t ht hW => ⟨_, rfl, by dsimp only; rw [ofX, if_pos c_2, if_pos sw_3], ht⟩) (fun q hq => by cases hq) dX0_of_68
    by_cases sw_4 : a = 1
    · refine lv_rwi sw_4 ?_
      refine lv_tableIn (tgt := 69) hx hb dX0_of_21 (by decide) (by decide) rfl (by decide) ?_
      refine lv_aload_n hx hb dX0_of_69 rfl (lv_at hl 0 rfl) ?_
      refine mg_getN hx hb hts in_X5 hown hE hP (30 + 3 * (tn p)) (xl_o hA (xw_p0 (p := tn p) (by omega))) (shX_o (xw_p0 (p := tn p) (by omega))) rfl 1 rfl (by decide) q114 (fun _ h9 => h9) dX0_of_70 ?_
      exact W.iret (v := σ (30 + 3 * (tn p)) 1) hx hb hr (fun t ht hW => ⟨_, rfl, by dsimp only; rw [ofX, if_pos c_2, if_neg sw_3, if_pos sw_4], ht⟩) (fun q hq => by cases hq) dX0_of_73
    by_cases sw_5 : a = 2
    · refine lv_rwi sw_5 ?_
      refine lv_tableIn (tgt := 74) hx hb dX0_of_21 (by decide) (by decide) rfl (by decide) ?_
      refine lv_aload_n hx hb dX0_of_74 rfl (lv_at hl 0 rfl) ?_
      refine mg_getN hx hb hts in_X5 hown hE hP (30 + 3 * (tn p)) (xl_o hA (xw_p0 (p := tn p) (by omega))) (shX_o (xw_p0 (p := tn p) (by omega))) rfl 2 rfl (by decide) q116 (fun _ h9 => h9) dX0_of_75 ?_
      exact W.iret (v := σ (30 + 3 * (tn p)) 2) hx hb hr (fun t ht hW => ⟨_, rfl, by dsimp only; rw [ofX, if_pos c_2, if_neg sw_3, if_neg sw_4, if_pos sw_5], ht⟩) (fun q hq => by cases hq) dX0_of_78
    by_cases sw_6 : a = 3
    · refine lv_rwi sw_6 ?_
      refine lv_tableIn (tgt := 79) hx hb dX0_of_21 (by decide) (by decide) rfl (by decide) ?_
      refine lv_aload_n hx hb dX0_of_79 rfl (lv_at hl 0 rfl) ?_
      refine mg_getN hx hb hts in_X5 hown hE hP (30 + 3 * (tn p)) (xl_o hA (xw_p0 (p := tn p) (by omega))) (shX_o (xw_p0 (p := tn p) (by omega))) rfl 6 rfl (by decide) q127 (fun _ h9 => h9) dX0_of_80 ?_
      exact W.iret (v := σ (30 + 3 * (tn p)) 6) hx hb hr (fun t ht hW => ⟨_, rfl, by dsimp only; rw [ofX, if_pos c_2, if_neg sw_3, if_neg sw_4, if_neg sw_5, if_pos sw_6], ht⟩) (fun q hq => by cases hq) dX0_of_83
    by_cases sw_7 : a = 4
    · refine lv_rwi sw_7 ?_
      refine lv_tableIn (tgt := 84) hx hb dX0_of_21 (by decide) (by decide) rfl (by decide) ?_
      refine lv_aload_n hx hb dX0_of_84 rfl (lv_at hl 0 rfl) ?_
      refine vp_callSi (W.runV (As := []) (rest := []) ⟨hx, hb, hml, hown, hts⟩ (mt_X5_thick l D dA rr xs ad N hA σ (30 + 3 * (tn p)) (xw_p0 (p := tn p) (by omega)) (nc (tn p)) c_2_m (by omega)) (cwV 0 hts (lw_V q359 q360 q361 q50 q362) rfl rfl rfl (by decide +kernel) ⟨Nat.le_of_ble_eq_true rfl, Nat.le_of_ble_eq_true rfl⟩) ⟨mPre.blind, m_recv hE hP (30 + 3 * (tn p)) (xl_o hA (xw_p0 (p := tn p) (by omega))) (shX_o (xw_p0 (p := tn p) (by omega))) rfl, mPre.at hE hP⟩ rfl rfl hl.1 rfl (lv_room (Nat.le_of_ble_eq_true rfl)) dX0_of_85 ⟨Nat.le_of_ble_eq_true rfl, Nat.le_of_ble_eq_true rfl⟩) (fun r_8 hr_8 => ?_)
      subst hr_8
      exact W.iret (v := (thk (σ (30 + 3 * (tn p) + 2)) (nc (tn p)))) hx hb hr (fun t ht hW => ⟨_, rfl, by dsimp only; rw [ofX, if_pos c_2, if_neg sw_3, if_neg sw_4, if_neg sw_5, if_neg sw_6, if_pos sw_7], ht⟩) (fun q hq => by cases hq) dX0_of_88
    by_cases sw_9 : a = 5
    · refine lv_rwi sw_9 ?_
      refine lv_tableIn (tgt := 89) hx hb dX0_of_21 (by decide) (by decide) rfl (by decide) ?_
      refine lv_aload_n hx hb dX0_of_89 rfl (lv_at hl 0 rfl) ?_
      refine lv_bipush (v := (-4)) hx hb dX0_of_90 (by decide) ?_
      refine vp_callSi (W.runS (As := [.ref (ad (30 + 3 * (tn p))), .int (-4)]) (rest := []) ⟨hx, hb, hml, hown, hts⟩ (mt_X0_owedBy l D dA rr xs ad N hA σ (30 + 3 * (tn p)) (xw_p0 (p := tn p) (by omega)) (-4) (nc (tn p)) c_2_m (by omega)) (va_cwS 2 hts (lw_S q363 q364 q45 q365) rfl rfl rfl (by decide +kernel) ⟨Nat.le_of_ble_eq_true rfl, Nat.le_of_ble_eq_true rfl⟩) ⟨mPre.blind, mPre.at hE hP⟩ rfl rfl hl.1 rfl (lv_room (Nat.le_of_ble_eq_true rfl)) dX0_of_92 ⟨Nat.le_of_ble_eq_true rfl, Nat.le_of_ble_eq_true rfl⟩) (fun r_10 hr_10 => ?_)
      subst hr_10
      exact W.iret (v := (owm (ows (σ (30 + 3 * (tn p) + 2)) (-4) (nc (tn p))))) hx hb hr (fun t ht hW => ⟨_, rfl, by dsimp only; rw [ofX, if_pos c_2, if_neg sw_3, if_neg sw_4, if_neg sw_5, if_neg sw_6, if_neg sw_7, if_pos sw_9], ht⟩) (fun q hq => by cases hq) dX0_of_95
    by_cases sw_11 : a = 6
    · refine lv_rwi sw_11 ?_
      refine lv_tableIn (tgt := 96) hx hb dX0_of_21 (by decide) (by decide) rfl (by decide) ?_
      refine lv_aload_n hx hb dX0_of_96 rfl (lv_at hl 0 rfl) ?_
      refine mg_getN hx hb hts in_X5 hown hE hP (30 + 3 * (tn p)) (xl_o hA (xw_p0 (p := tn p) (by omega))) (shX_o (xw_p0 (p := tn p) (by omega))) rfl 3 rfl (by decide) q119 (fun _ h9 => h9) dX0_of_97 ?_
      exact W.iret (v := σ (30 + 3 * (tn p)) 3) hx hb hr (fun t ht hW => ⟨_, rfl, by dsimp only; rw [ofX, if_pos c_2, if_neg sw_3, if_neg sw_4, if_neg sw_5, if_neg sw_6, if_neg sw_7, if_neg sw_9, if_pos sw_11], ht⟩) (fun q hq => by cases hq) dX0_of_100
    have isw_3 : a.toInt ≠ 0 := fun z => sw_3 (Int32.toInt_inj.mp z)
    have isw_4 : a.toInt ≠ 1 := fun z => sw_4 (Int32.toInt_inj.mp z)
    have isw_5 : a.toInt ≠ 2 := fun z => sw_5 (Int32.toInt_inj.mp z)
    have isw_6 : a.toInt ≠ 3 := fun z => sw_6 (Int32.toInt_inj.mp z)
    have isw_7 : a.toInt ≠ 4 := fun z => sw_7 (Int32.toInt_inj.mp z)
    have isw_9 : a.toInt ≠ 5 := fun z => sw_9 (Int32.toInt_inj.mp z)
    have isw_11 : a.toInt ≠ 6 := fun z => sw_11 (Int32.toInt_inj.mp z)
    refine lv_tableOut (tgt := 101) hx hb dX0_of_21 (by omega) (by decide) ?_
    refine lv_iconst (v := (-1)) hx hb dX0_of_101 (by decide) ?_
    exact W.iret (v := (-1)) hx hb hr (fun t ht hW => ⟨_, rfl, by dsimp only; rw [ofX, if_pos c_2, if_neg sw_3, if_neg sw_4, if_neg sw_5, if_neg sw_6, if_neg sw_7, if_neg sw_9, if_neg sw_11], ht⟩) (fun q hq => by cases hq) dX0_of_102
  · have c_2 : ¬ (ik p np) := bi_f c_2
    refine lv_iconst (v := (-1)) hx hb dX0_of_8 (by decide) ?_
    exact W.iret (v := (-1)) hx hb hr (fun t ht hW => ⟨_, rfl, by dsimp only; rw [ofX, if_neg c_2], ht⟩) (fun q hq => by cases hq) dX0_of_9
set_option maxHeartbeats 4000000 in
set_option maxRecDepth 100000 in
theorem mt_X0_coat (l : Launch) (D : va_G) (dA : Nat → ClassId) (rr : Nat → Option Nat) (xs : Nat → mSh) (ad : Nat → Nat) (N : Nat) (hA : xA ad N) (σ : mMem) (p c a : Int32) (np : Nat) (nc : Nat → Nat) (ld : Nat → Nat → Nat) (hF : xF σ np nc ld) : Met l yX0_coat (ws_ yX0_coat cX0_coat 4 (some .int)) ({ frames := 3, cells := 0, slots := 0, locals := 65 }) (va_Pc [.ref (ad 0), .int p, .int c, .int a] (mPre D dA (shX rr xs) ad N σ)) (vp_Si (fun r : Int32 => r = (if ik p np ∧ ik c (nc (tn p)) then (if ik a 4 then σ (30 + 3 * tn p + 2) (4 * tn c + tn a) else -1) else -1))) 0 0 (fun _ => False) := by
  refine Met.ofW (cc := cX0_coat) (maxL := 4) (ret := (some .int)) (by decide) rfl ?_
  intro pp ee ss mm args below meth cd s₁ B hml hv
  obtain ⟨rfl, hP, hE⟩ := hv
  have hx := B.exec
  have hb := B.bytes
  have hr := B.returns
  have hts := atoms_spec (ws := ws_ yX0_coat cX0_coat 4 (some .int)) B.pre
  have hts : ∀ w ∈ lw_all, w.before _ ss = true := fun w h => hts w (List.mem_cons_of_mem _ h)
  have hown : ss.vm.findClass RX0 = some mm.cls := findClass_of_methodNamed B.named
  have hlocks := B.notSynchronized
  have hNN := hA.1
  have hn5 := hF.n5
  have hl := lv_entry ([.ref (ad 0), .int p, .int c, .int a]) (n := 4) (Nat.le_of_ble_eq_true rfl)
  rw [lg_entry_eq]
  generalize (lg_sl ([.ref (ad 0), .int p, .int c, .int a]) ++ List.replicate (4 - (lg_sl ([.ref (ad 0), .int p, .int c, .int a])).length) Slot.unset).toArray = ls at hl ⊢
  have hl : lv_has ls 4 [(0, .ref (ad 0)), (1, .int p), (2, .int c), (3, .int a)] := hl
  refine lv_aload_n hx hb dX0_coat_0 rfl (lv_at hl 0 rfl) ?_
  refine lv_iload_n hx hb dX0_coat_1 rfl (lv_at hl 1 rfl) ?_
  refine lv_iload_n hx hb dX0_coat_2 rfl (lv_at hl 2 rfl) ?_
  refine vp_callSi (W.runV (As := [.int p, .int c]) (rest := []) ⟨hx, hb, hml, hown, hts⟩ (mt_X0_isCoat l D dA rr xs ad N hA σ p c np nc ld hF) (cwV 2 hts (lw_V q382 q384 qs3 q45 q385) rfl rfl rfl (by decide +kernel) ⟨Nat.le_of_ble_eq_true rfl, Nat.le_of_ble_eq_true rfl⟩) ⟨mPre.blind, m_recv hE hP 0 (xl_n hA (by decide)) rfl rfl, mPre.at hE hP⟩ rfl rfl hl.1 rfl (lv_room (Nat.le_of_ble_eq_true rfl)) dX0_coat_3 ⟨Nat.le_of_ble_eq_true rfl, Nat.le_of_ble_eq_true rfl⟩) (fun r_1 hr_1 => ?_)
  subst hr_1
  refine lv_if_eq (tgt := 39) hx hb dX0_coat_6 (by decide) (fun c_2 => ?_) (fun c_2 => ?_)
  · have c_2 : ¬ (ik p np ∧ ik c (nc (tn p))) := bi_f c_2
    refine lv_iconst (v := (-1)) hx hb dX0_coat_39 (by decide) ?_
    exact W.iret (v := (-1)) hx hb hr (fun t ht hW => ⟨_, rfl, by dsimp only; rw [if_neg c_2], ht⟩) (fun q hq => by cases hq) dX0_coat_40
  · have c_2 : ik p np ∧ ik c (nc (tn p)) := bi_t c_2
    obtain ⟨c_2_0, c_2_1⟩ := id c_2
    have c_2_0_lt := ik_lt c_2_0
    have c_2_0_m := hF.m c_2_0_lt
    have c_2_0_8 := hF.m8 c_2_0_lt
    have c_2_1_lt := ik_lt c_2_1
    refine lv_iload_n hx hb dX0_coat_9 rfl (lv_at hl 3 rfl) ?_
    refine lv_iconst (v := 0) hx hb dX0_coat_10 (by decide) ?_
    refine lv_iconst (v := 3) hx hb dX0_coat_11 (by decide) ?_
    refine vp_callSi (W.runS (As := [.int a, .int 0, .int 3]) (rest := []) ⟨hx, hb, hml, hown, hts⟩ (mt_X0_isIn l a 0 3) (va_cwS 3 hts (lw_S q344 q345 q45 q346) rfl rfl rfl (by decide +kernel) ⟨Nat.le_of_ble_eq_true rfl, Nat.le_of_ble_eq_true rfl⟩) ⟨fun _ _ _ _ h => h, fun _ _ _ => ⟨rfl, trivial⟩⟩ rfl rfl hl.1 rfl (lv_room (Nat.le_of_ble_eq_true rfl)) dX0_coat_12 ⟨Nat.le_of_ble_eq_true rfl, Nat.le_of_ble_eq_true rfl⟩) (fun r_3 hr_3 => ?_)
    subst hr_3
    refine lv_rwi (bi_c (ik_of (n := 4) rfl rfl)) ?_
    refine lv_if_eq (tgt := 39) hx hb dX0_coat_15 (by decide) (fun c_4 => ?_) (fun c_4 => ?_)
    · have c_4 : ¬ (ik a 4) := bi_f c_4
      refine lv_iconst (v := (-1)) hx hb dX0_coat_39 (by decide) ?_
      exact W.iret (v := (-1)) hx hb hr (fun t ht hW => ⟨_, rfl, by dsimp only; rw [if_pos c_2, if_neg c_4], ht⟩) (fun q hq => by cases hq) dX0_coat_40
    · have c_4 : ik a 4 := bi_t c_4
      have c_4_lt := ik_lt c_4
      refine lv_aload_n hx hb dX0_coat_18 rfl (lv_at hl 0 rfl) ?_
      refine mg_ref hx hb hts in_X0 hown hE hP 0 (xl_n hA (by decide)) rfl rfl 1 rfl (by decide) (hts _ q265) (fun _ h9 => h9) dX0_coat_19 ?_
      refine mg_refN hx hb hts in_X4 hown hE hP 1 (xl_n hA (by decide)) rfl rfl 0 rfl (by decide) q145 (fun _ h9 => h9) dX0_coat_22 ?_
      refine lv_iload_n hx hb dX0_coat_25 rfl (lv_at hl 1 rfl) ?_
      refine mg_ald hx hb hE hP 4 (xl_n hA (by decide)) rfl rfl (tn p) (by omega) (ik_eq c_2_0) (by decide) rfl dX0_coat_26 ?_
      refine mg_refN hx hb hts in_X5 hown hE hP (30 + 3 * (tn p)) (xl_o hA (xw_p0 (p := tn p) (by omega))) (shX_o (xw_p0 (p := tn p) (by omega))) rfl 5 rfl (by decide) q123 (fun _ h9 => h9) dX0_coat_27 ?_
      refine lv_iconst (v := 4) hx hb dX0_coat_30 (by decide) ?_
      refine lv_iload_n hx hb dX0_coat_31 rfl (lv_at hl 2 rfl) ?_
      refine lv_imul hx hb dX0_coat_32 ?_
      refine lv_iload_n hx hb dX0_coat_33 rfl (lv_at hl 3 rfl) ?_
      refine lv_iadd hx hb dX0_coat_34 ?_
      refine mg_ild hx hb hE hP (30 + 3 * (tn p) + 2) (xl_c hA (xw_p0 (p := tn p) (by omega))) (shX_c (xw_p0 (p := tn p) (by omega))) (4 * (tn c) + tn a) (by omega) (mi_add (mi_mul rfl (ik_eq c_2_1)) (ik_eq c_4)) (by decide) dX0_coat_35 ?_
      refine lv_goto (tgt := 40) hx hb dX0_coat_36 (by decide) ?_
      exact W.iret (v := σ (30 + 3 * (tn p) + 2) (4 * (tn c) + tn a)) hx hb hr (fun t ht hW => ⟨_, rfl, by dsimp only; rw [if_pos c_2, if_pos c_4], ht⟩) (fun q hq => by cases hq) dX0_coat_40
set_option maxHeartbeats 4000000 in
set_option maxRecDepth 100000 in
theorem mt_X0_tax (l : Launch) (D : va_G) (dA : Nat → ClassId) (rr : Nat → Option Nat) (xs : Nat → mSh) (ad : Nat → Nat) (N : Nat) (hA : xA ad N) (σ : mMem) (p g v : Int32) (np : Nat) (nc : Nat → Nat) (ld : Nat → Nat → Nat) (hF : xF σ np nc ld) : Met l yX0_tax (ws_ yX0_tax cX0_tax 5 (some .int)) ({ frames := 2, cells := 0, slots := 0, locals := 43 }) (va_Pc [.ref (ad 0), .int p, .int g, .int v] (mPre D dA (shX rr xs) ad N σ)) (va_Qi (fun (r : Int32) (u : mMem) => (if ik p np then (if ik g 5 then (if ik v 10 then (r = σ (30 + 3 * tn p + 1) (tn g) ∧ u = mup σ (30 + 3 * tn p + 1) (tn g) v) else (r = -1 ∧ u = σ)) else (r = -1 ∧ u = σ)) else (r = -1 ∧ u = σ))) (mB D dA (shX rr xs) ad N) (mAd ad N)) 0 0 (mAd ad N) := by
  refine Met.ofW (cc := cX0_tax) (maxL := 5) (ret := (some .int)) (by decide) rfl ?_
  intro pp ee ss mm args below meth cd s₁ B hml hv
  obtain ⟨rfl, hP, hE⟩ := hv
  have hx := B.exec
  have hb := B.bytes
  have hr := B.returns
  have hts := atoms_spec (ws := ws_ yX0_tax cX0_tax 5 (some .int)) B.pre
  have hts : ∀ w ∈ lw_all, w.before _ ss = true := fun w h => hts w (List.mem_cons_of_mem _ h)
  have hown : ss.vm.findClass RX0 = some mm.cls := findClass_of_methodNamed B.named
  have hlocks := B.notSynchronized
  have hD := hA.2.self
  have hS : va_S (mAd ad N) ss.heap ss.heap [] := va_S.rf
  have hNN := hA.1
  have hn5 := hF.n5
  have hl := lv_entry ([.ref (ad 0), .int p, .int g, .int v]) (n := 5) (Nat.le_of_ble_eq_true rfl)
  rw [lg_entry_eq]
  generalize (lg_sl ([.ref (ad 0), .int p, .int g, .int v]) ++ List.replicate (5 - (lg_sl ([.ref (ad 0), .int p, .int g, .int v])).length) Slot.unset).toArray = ls at hl ⊢
  have hl : lv_has ls 5 [(0, .ref (ad 0)), (1, .int p), (2, .int g), (3, .int v)] := hl
  refine lv_aload_n hx hb dX0_tax_0 rfl (lv_at hl 0 rfl) ?_
  refine lv_iload_n hx hb dX0_tax_1 rfl (lv_at hl 1 rfl) ?_
  refine vp_callSi (W.runV (As := [.int p]) (rest := []) ⟨hx, hb, hml, hown, hts⟩ (mt_X0_isPerson l D dA rr xs ad N hA σ p np hF.n hF.n5) (cwV 1 hts (lw_V q355 q357 qs2 q45 q358) rfl rfl rfl (by decide +kernel) ⟨Nat.le_of_ble_eq_true rfl, Nat.le_of_ble_eq_true rfl⟩) ⟨mPre.blind, m_recv hE hP 0 (xl_n hA (by decide)) rfl rfl, mPre.at hE hP⟩ rfl rfl hl.1 rfl (lv_room (Nat.le_of_ble_eq_true rfl)) dX0_tax_2 ⟨Nat.le_of_ble_eq_true rfl, Nat.le_of_ble_eq_true rfl⟩) (fun r_1 hr_1 => ?_)
  subst hr_1
  refine lv_if_eq (tgt := 25) hx hb dX0_tax_5 (by decide) (fun c_2 => ?_) (fun c_2 => ?_)
  · have c_2 : ¬ (ik p np) := bi_f c_2
    refine lv_iconst (v := (-1)) hx hb dX0_tax_25 (by decide) ?_
    exact W.iret (v := (-1)) hx hb hr (fun t ht hW => ⟨⟨_, _, rfl, by dsimp only; rw [if_neg c_2]; exact ⟨rfl, rfl⟩, mB.of ht hP⟩, hS.F ht⟩) hS.2.2 dX0_tax_26
  · have c_2 : ik p np := bi_t c_2
    have c_2_lt := ik_lt c_2
    have c_2_m := hF.m c_2_lt
    have c_2_8 := hF.m8 c_2_lt
    refine lv_iload_n hx hb dX0_tax_8 rfl (lv_at hl 2 rfl) ?_
    refine vp_callSi (W.runS (As := [.int g]) (rest := []) ⟨hx, hb, hml, hown, hts⟩ (mt_X0_isLender l g) (va_cwS 1 hts (lw_S q390 q391 q45 q392) rfl rfl rfl (by decide +kernel) ⟨Nat.le_of_ble_eq_true rfl, Nat.le_of_ble_eq_true rfl⟩) ⟨fun _ _ _ _ h => h, fun _ _ _ => ⟨rfl, trivial⟩⟩ rfl rfl hl.1 rfl (lv_room (Nat.le_of_ble_eq_true rfl)) dX0_tax_9 ⟨Nat.le_of_ble_eq_true rfl, Nat.le_of_ble_eq_true rfl⟩) (fun r_3 hr_3 => ?_)
    subst hr_3
    refine lv_if_eq (tgt := 25) hx hb dX0_tax_12 (by decide) (fun c_4 => ?_) (fun c_4 => ?_)
    · have c_4 : ¬ (ik g 5) := bi_f c_4
      refine lv_iconst (v := (-1)) hx hb dX0_tax_25 (by decide) ?_
      exact W.iret (v := (-1)) hx hb hr (fun t ht hW => ⟨⟨_, _, rfl, by dsimp only; rw [if_pos c_2, if_neg c_4]; exact ⟨rfl, rfl⟩, mB.of ht hP⟩, hS.F ht⟩) hS.2.2 dX0_tax_26
    · have c_4 : ik g 5 := bi_t c_4
      have c_4_lt := ik_lt c_4
      refine lv_iload_n hx hb dX0_tax_15 rfl (lv_at hl 3 rfl) ?_
      refine lv_iconst (v := 0) hx hb dX0_tax_16 (by decide) ?_
      refine lv_bipush (v := 9) hx hb dX0_tax_17 (by decide) ?_
      refine vp_callSi (W.runS (As := [.int v, .int 0, .int 9]) (rest := []) ⟨hx, hb, hml, hown, hts⟩ (mt_X0_isIn l v 0 9) (va_cwS 3 hts (lw_S q344 q345 q45 q346) rfl rfl rfl (by decide +kernel) ⟨Nat.le_of_ble_eq_true rfl, Nat.le_of_ble_eq_true rfl⟩) ⟨fun _ _ _ _ h => h, fun _ _ _ => ⟨rfl, trivial⟩⟩ rfl rfl hl.1 rfl (lv_room (Nat.le_of_ble_eq_true rfl)) dX0_tax_19 ⟨Nat.le_of_ble_eq_true rfl, Nat.le_of_ble_eq_true rfl⟩) (fun r_5 hr_5 => ?_)
      subst hr_5
      refine lv_rwi (bi_c (ik_of (n := 10) rfl rfl)) ?_
      refine lv_if_ne (tgt := 27) hx hb dX0_tax_22 (by decide) (fun c_6 => ?_) (fun c_6 => ?_)
      · have c_6 : ik v 10 := bi_t c_6
        have c_6_lt := ik_lt c_6
        refine lv_aload_n hx hb dX0_tax_27 rfl (lv_at hl 0 rfl) ?_
        refine mg_ref hx hb hts in_X0 hown hE hP 0 (xl_n hA (by decide)) rfl rfl 1 rfl (by decide) (hts _ q265) (fun _ h9 => h9) dX0_tax_28 ?_
        refine mg_refN hx hb hts in_X4 hown hE hP 1 (xl_n hA (by decide)) rfl rfl 0 rfl (by decide) q145 (fun _ h9 => h9) dX0_tax_31 ?_
        refine lv_iload_n hx hb dX0_tax_34 rfl (lv_at hl 1 rfl) ?_
        refine mg_ald hx hb hE hP 4 (xl_n hA (by decide)) rfl rfl (tn p) (by omega) (ik_eq c_2) (by decide) rfl dX0_tax_35 ?_
        refine mg_refN hx hb hts in_X5 hown hE hP (30 + 3 * (tn p)) (xl_o hA (xw_p0 (p := tn p) (by omega))) (shX_o (xw_p0 (p := tn p) (by omega))) rfl 4 rfl (by decide) q121 (fun _ h9 => h9) dX0_tax_36 ?_
        refine lv_iload_n hx hb dX0_tax_39 rfl (lv_at hl 2 rfl) ?_
        refine mg_ild hx hb hE hP (30 + 3 * (tn p) + 1) (xl_t hA (xw_p0 (p := tn p) (by omega))) (shX_t (xw_p0 (p := tn p) (by omega))) (tn g) (by omega) (ik_eq c_4) (by decide) dX0_tax_40 ?_
        refine lv_istore (lv' := [(4, .int (σ (30 + 3 * (tn p) + 1) (tn g))), (0, .ref (ad 0)), (1, .int p), (2, .int g), (3, .int v)]) hx hb dX0_tax_41 hl (by decide) rfl (fun ls hl => ?_)
        refine lv_aload_n hx hb dX0_tax_43 rfl (lv_at hl 1 rfl) ?_
        refine mg_ref hx hb hts in_X0 hown hE hP 0 (xl_n hA (by decide)) rfl rfl 1 rfl (by decide) (hts _ q265) (fun _ h9 => h9) dX0_tax_44 ?_
        refine mg_refN hx hb hts in_X4 hown hE hP 1 (xl_n hA (by decide)) rfl rfl 0 rfl (by decide) q145 (fun _ h9 => h9) dX0_tax_47 ?_
        refine lv_iload_n hx hb dX0_tax_50 rfl (lv_at hl 2 rfl) ?_
        refine mg_ald hx hb hE hP 4 (xl_n hA (by decide)) rfl rfl (tn p) (by omega) (ik_eq c_2) (by decide) rfl dX0_tax_51 ?_
        refine mg_refN hx hb hts in_X5 hown hE hP (30 + 3 * (tn p)) (xl_o hA (xw_p0 (p := tn p) (by omega))) (shX_o (xw_p0 (p := tn p) (by omega))) rfl 4 rfl (by decide) q121 (fun _ h9 => h9) dX0_tax_52 ?_
        refine lv_iload_n hx hb dX0_tax_55 rfl (lv_at hl 3 rfl) ?_
        refine lv_iload_n hx hb dX0_tax_56 rfl (lv_at hl 4 rfl) ?_
        refine mg_ist (v := v) hx hb hE hD hP hS (30 + 3 * (tn p) + 1) (xl_t hA (xw_p0 (p := tn p) (by omega))) (shX_t (xw_p0 (p := tn p) (by omega))) (tn g) (by omega) (ik_eq c_4) (by decide) dX0_tax_57 (fun H locs hP hS => ?_)
        refine lv_iload hx hb dX0_tax_58 (lv_at hl 0 rfl) ?_
        exact W.iret (v := σ (30 + 3 * (tn p) + 1) (tn g)) hx hb hr (fun t ht hW => ⟨⟨_, _, rfl, by dsimp only; rw [if_pos c_2, if_pos c_4, if_pos c_6]; exact ⟨rfl, rfl⟩, mB.of ht hP⟩, hS.F ht⟩) hS.2.2 dX0_tax_60
      · have c_6 : ¬ (ik v 10) := bi_f c_6
        refine lv_iconst (v := (-1)) hx hb dX0_tax_25 (by decide) ?_
        exact W.iret (v := (-1)) hx hb hr (fun t ht hW => ⟨⟨_, _, rfl, by dsimp only; rw [if_pos c_2, if_pos c_4, if_neg c_6]; exact ⟨rfl, rfl⟩, mB.of ht hP⟩, hS.F ht⟩) hS.2.2 dX0_tax_26
set_option maxHeartbeats 4000000 in
set_option maxRecDepth 100000 in
theorem mt_X0_heat (l : Launch) (D : va_G) (dA : Nat → ClassId) (rr : Nat → Option Nat) (xs : Nat → mSh) (ad : Nat → Nat) (N : Nat) (hA : xA ad N) (σ : mMem) (a v : Int32) : Met l yX0_heat (ws_ yX0_heat cX0_heat 4 (some .int)) ({ frames := 1, cells := 0, slots := 0, locals := 22 }) (va_Pc [.ref (ad 0), .int a, .int v] (mPre D dA (shX rr xs) ad N σ)) (va_Qi (fun (r : Int32) (u : mMem) => (if ik a 12 then (if ik v 41 then (r = σ 7 (tn a) ∧ u = mup σ 7 (tn a) v) else (r = -1 ∧ u = σ)) else (r = -1 ∧ u = σ))) (mB D dA (shX rr xs) ad N) (mAd ad N)) 0 0 (mAd ad N) := by
  refine Met.ofW (cc := cX0_heat) (maxL := 4) (ret := (some .int)) (by decide) rfl ?_
  intro pp ee ss mm args below meth cd s₁ B hml hv
  obtain ⟨rfl, hP, hE⟩ := hv
  have hx := B.exec
  have hb := B.bytes
  have hr := B.returns
  have hts := atoms_spec (ws := ws_ yX0_heat cX0_heat 4 (some .int)) B.pre
  have hts : ∀ w ∈ lw_all, w.before _ ss = true := fun w h => hts w (List.mem_cons_of_mem _ h)
  have hown : ss.vm.findClass RX0 = some mm.cls := findClass_of_methodNamed B.named
  have hlocks := B.notSynchronized
  have hD := hA.2.self
  have hS : va_S (mAd ad N) ss.heap ss.heap [] := va_S.rf
  have hNN := hA.1
  have hl := lv_entry ([.ref (ad 0), .int a, .int v]) (n := 4) (Nat.le_of_ble_eq_true rfl)
  rw [lg_entry_eq]
  generalize (lg_sl ([.ref (ad 0), .int a, .int v]) ++ List.replicate (4 - (lg_sl ([.ref (ad 0), .int a, .int v])).length) Slot.unset).toArray = ls at hl ⊢
  have hl : lv_has ls 4 [(0, .ref (ad 0)), (1, .int a), (2, .int v)] := hl
  refine lv_iload_n hx hb dX0_heat_0 rfl (lv_at hl 1 rfl) ?_
  refine lv_iconst (v := 0) hx hb dX0_heat_1 (by decide) ?_
  refine lv_bipush (v := 11) hx hb dX0_heat_2 (by decide) ?_
  refine vp_callSi (W.runS (As := [.int a, .int 0, .int 11]) (rest := []) ⟨hx, hb, hml, hown, hts⟩ (mt_X0_isIn l a 0 11) (va_cwS 3 hts (lw_S q344 q345 q45 q346) rfl rfl rfl (by decide +kernel) ⟨Nat.le_of_ble_eq_true rfl, Nat.le_of_ble_eq_true rfl⟩) ⟨fun _ _ _ _ h => h, fun _ _ _ => ⟨rfl, trivial⟩⟩ rfl rfl hl.1 rfl (lv_room (Nat.le_of_ble_eq_true rfl)) dX0_heat_4 ⟨Nat.le_of_ble_eq_true rfl, Nat.le_of_ble_eq_true rfl⟩) (fun r_1 hr_1 => ?_)
  subst hr_1
  refine lv_rwi (bi_c (ik_of (n := 12) rfl rfl)) ?_
  refine lv_if_eq (tgt := 20) hx hb dX0_heat_7 (by decide) (fun c_2 => ?_) (fun c_2 => ?_)
  · have c_2 : ¬ (ik a 12) := bi_f c_2
    refine lv_iconst (v := (-1)) hx hb dX0_heat_20 (by decide) ?_
    exact W.iret (v := (-1)) hx hb hr (fun t ht hW => ⟨⟨_, _, rfl, by dsimp only; rw [if_neg c_2]; exact ⟨rfl, rfl⟩, mB.of ht hP⟩, hS.F ht⟩) hS.2.2 dX0_heat_21
  · have c_2 : ik a 12 := bi_t c_2
    have c_2_lt := ik_lt c_2
    refine lv_iload_n hx hb dX0_heat_10 rfl (lv_at hl 2 rfl) ?_
    refine lv_iconst (v := 0) hx hb dX0_heat_11 (by decide) ?_
    refine lv_bipush (v := 40) hx hb dX0_heat_12 (by decide) ?_
    refine vp_callSi (W.runS (As := [.int v, .int 0, .int 40]) (rest := []) ⟨hx, hb, hml, hown, hts⟩ (mt_X0_isIn l v 0 40) (va_cwS 3 hts (lw_S q344 q345 q45 q346) rfl rfl rfl (by decide +kernel) ⟨Nat.le_of_ble_eq_true rfl, Nat.le_of_ble_eq_true rfl⟩) ⟨fun _ _ _ _ h => h, fun _ _ _ => ⟨rfl, trivial⟩⟩ rfl rfl hl.1 rfl (lv_room (Nat.le_of_ble_eq_true rfl)) dX0_heat_14 ⟨Nat.le_of_ble_eq_true rfl, Nat.le_of_ble_eq_true rfl⟩) (fun r_3 hr_3 => ?_)
    subst hr_3
    refine lv_rwi (bi_c (ik_of (n := 41) rfl rfl)) ?_
    refine lv_if_ne (tgt := 22) hx hb dX0_heat_17 (by decide) (fun c_4 => ?_) (fun c_4 => ?_)
    · have c_4 : ik v 41 := bi_t c_4
      have c_4_lt := ik_lt c_4
      refine lv_aload_n hx hb dX0_heat_22 rfl (lv_at hl 0 rfl) ?_
      refine mg_ref hx hb hts in_X0 hown hE hP 0 (xl_n hA (by decide)) rfl rfl 1 rfl (by decide) (hts _ q265) (fun _ h9 => h9) dX0_heat_23 ?_
      refine mg_refN hx hb hts in_X4 hown hE hP 1 (xl_n hA (by decide)) rfl rfl 1 rfl (by decide) q147 (fun _ h9 => h9) dX0_heat_26 ?_
      refine lv_iload_n hx hb dX0_heat_29 rfl (lv_at hl 1 rfl) ?_
      refine mg_ild hx hb hE hP 7 (xl_n hA (by decide)) rfl (tn a) (by omega) (ik_eq c_2) (by decide) dX0_heat_30 ?_
      refine lv_istore_n (lv' := [(3, .int (σ 7 (tn a))), (0, .ref (ad 0)), (1, .int a), (2, .int v)]) hx hb dX0_heat_31 rfl hl (by decide) rfl (fun ls hl => ?_)
      refine lv_aload_n hx hb dX0_heat_32 rfl (lv_at hl 1 rfl) ?_
      refine mg_ref hx hb hts in_X0 hown hE hP 0 (xl_n hA (by decide)) rfl rfl 1 rfl (by decide) (hts _ q265) (fun _ h9 => h9) dX0_heat_33 ?_
      refine mg_refN hx hb hts in_X4 hown hE hP 1 (xl_n hA (by decide)) rfl rfl 1 rfl (by decide) q147 (fun _ h9 => h9) dX0_heat_36 ?_
      refine lv_iload_n hx hb dX0_heat_39 rfl (lv_at hl 2 rfl) ?_
      refine lv_iload_n hx hb dX0_heat_40 rfl (lv_at hl 3 rfl) ?_
      refine mg_ist (v := v) hx hb hE hD hP hS 7 (xl_n hA (by decide)) rfl (tn a) (by omega) (ik_eq c_2) (by decide) dX0_heat_41 (fun H locs hP hS => ?_)
      refine lv_iload_n hx hb dX0_heat_42 rfl (lv_at hl 0 rfl) ?_
      exact W.iret (v := σ 7 (tn a)) hx hb hr (fun t ht hW => ⟨⟨_, _, rfl, by dsimp only; rw [if_pos c_2, if_pos c_4]; exact ⟨rfl, rfl⟩, mB.of ht hP⟩, hS.F ht⟩) hS.2.2 dX0_heat_43
    · have c_4 : ¬ (ik v 41) := bi_f c_4
      refine lv_iconst (v := (-1)) hx hb dX0_heat_20 (by decide) ?_
      exact W.iret (v := (-1)) hx hb hr (fun t ht hW => ⟨⟨_, _, rfl, by dsimp only; rw [if_pos c_2, if_neg c_4]; exact ⟨rfl, rfl⟩, mB.of ht hP⟩, hS.F ht⟩) hS.2.2 dX0_heat_21
set_option maxHeartbeats 4000000 in
set_option maxRecDepth 100000 in
theorem mt_X0_rule (l : Launch) (D : va_G) (dA : Nat → ClassId) (rr : Nat → Option Nat) (xs : Nat → mSh) (ad : Nat → Nat) (N : Nat) (hA : xA ad N) (σ : mMem) (a v : Int32) : Met l yX0_rule (ws_ yX0_rule cX0_rule 4 (some .int)) ({ frames := 1, cells := 0, slots := 0, locals := 22 }) (va_Pc [.ref (ad 0), .int a, .int v] (mPre D dA (shX rr xs) ad N σ)) (va_Qi (fun (r : Int32) (u : mMem) => (if ik a 2 then (if tn a = 0 then (if ik v 3 then (r = σ 10 (tn a) ∧ u = mup σ 10 (tn a) v) else (r = -1 ∧ u = σ)) else (if ik v 10 then (r = σ 10 (tn a) ∧ u = mup σ 10 (tn a) v) else (r = -1 ∧ u = σ))) else (r = -1 ∧ u = σ))) (mB D dA (shX rr xs) ad N) (mAd ad N)) 0 0 (mAd ad N) := by
  refine Met.ofW (cc := cX0_rule) (maxL := 4) (ret := (some .int)) (by decide) rfl ?_
  intro pp ee ss mm args below meth cd s₁ B hml hv
  obtain ⟨rfl, hP, hE⟩ := hv
  have hx := B.exec
  have hb := B.bytes
  have hr := B.returns
  have hts := atoms_spec (ws := ws_ yX0_rule cX0_rule 4 (some .int)) B.pre
  have hts : ∀ w ∈ lw_all, w.before _ ss = true := fun w h => hts w (List.mem_cons_of_mem _ h)
  have hown : ss.vm.findClass RX0 = some mm.cls := findClass_of_methodNamed B.named
  have hlocks := B.notSynchronized
  have hD := hA.2.self
  have hS : va_S (mAd ad N) ss.heap ss.heap [] := va_S.rf
  have hNN := hA.1
  have hl := lv_entry ([.ref (ad 0), .int a, .int v]) (n := 4) (Nat.le_of_ble_eq_true rfl)
  rw [lg_entry_eq]
  generalize (lg_sl ([.ref (ad 0), .int a, .int v]) ++ List.replicate (4 - (lg_sl ([.ref (ad 0), .int a, .int v])).length) Slot.unset).toArray = ls at hl ⊢
  have hl : lv_has ls 4 [(0, .ref (ad 0)), (1, .int a), (2, .int v)] := hl
  refine lv_iload_n hx hb dX0_rule_0 rfl (lv_at hl 1 rfl) ?_
  refine lv_iconst (v := 0) hx hb dX0_rule_1 (by decide) ?_
  refine lv_iconst (v := 1) hx hb dX0_rule_2 (by decide) ?_
  refine vp_callSi (W.runS (As := [.int a, .int 0, .int 1]) (rest := []) ⟨hx, hb, hml, hown, hts⟩ (mt_X0_isIn l a 0 1) (va_cwS 3 hts (lw_S q344 q345 q45 q346) rfl rfl rfl (by decide +kernel) ⟨Nat.le_of_ble_eq_true rfl, Nat.le_of_ble_eq_true rfl⟩) ⟨fun _ _ _ _ h => h, fun _ _ _ => ⟨rfl, trivial⟩⟩ rfl rfl hl.1 rfl (lv_room (Nat.le_of_ble_eq_true rfl)) dX0_rule_3 ⟨Nat.le_of_ble_eq_true rfl, Nat.le_of_ble_eq_true rfl⟩) (fun r_1 hr_1 => ?_)
  subst hr_1
  refine lv_rwi (bi_c (ik_of (n := 2) rfl rfl)) ?_
  refine lv_if_eq (tgt := 27) hx hb dX0_rule_6 (by decide) (fun c_2 => ?_) (fun c_2 => ?_)
  · have c_2 : ¬ (ik a 2) := bi_f c_2
    refine lv_iconst (v := (-1)) hx hb dX0_rule_27 (by decide) ?_
    exact W.iret (v := (-1)) hx hb hr (fun t ht hW => ⟨⟨_, _, rfl, by dsimp only; rw [if_neg c_2]; exact ⟨rfl, rfl⟩, mB.of ht hP⟩, hS.F ht⟩) hS.2.2 dX0_rule_28
  · have c_2 : ik a 2 := bi_t c_2
    have c_2_lt := ik_lt c_2
    refine lv_iload_n hx hb dX0_rule_9 rfl (lv_at hl 2 rfl) ?_
    refine lv_iconst (v := 0) hx hb dX0_rule_10 (by decide) ?_
    refine lv_iload_n hx hb dX0_rule_11 rfl (lv_at hl 1 rfl) ?_
    refine lv_if_ne (tgt := 19) hx hb dX0_rule_12 (by decide) (fun c_3 => ?_) (fun c_3 => ?_)
    · have nc_3 : tn a ≠ 0 := mi_ne (ik_eq c_2) rfl (by omega) (by omega) c_3
      refine lv_bipush (v := 9) hx hb dX0_rule_19 (by decide) ?_
      refine vp_callSi (W.runS (As := [.int v, .int 0, .int 9]) (rest := []) ⟨hx, hb, hml, hown, hts⟩ (mt_X0_isIn l v 0 9) (va_cwS 3 hts (lw_S q344 q345 q45 q346) rfl rfl rfl (by decide +kernel) ⟨Nat.le_of_ble_eq_true rfl, Nat.le_of_ble_eq_true rfl⟩) ⟨fun _ _ _ _ h => h, fun _ _ _ => ⟨rfl, trivial⟩⟩ rfl rfl hl.1 rfl (lv_room (Nat.le_of_ble_eq_true rfl)) dX0_rule_21 ⟨Nat.le_of_ble_eq_true rfl, Nat.le_of_ble_eq_true rfl⟩) (fun r_4 hr_4 => ?_)
      subst hr_4
      refine lv_rwi (bi_c (ik_of (n := 10) rfl rfl)) ?_
      refine lv_if_ne (tgt := 29) hx hb dX0_rule_24 (by decide) (fun c_5 => ?_) (fun c_5 => ?_)
      · have c_5 : ik v 10 := bi_t c_5
        have c_5_lt := ik_lt c_5
        refine lv_aload_n hx hb dX0_rule_29 rfl (lv_at hl 0 rfl) ?_
        refine mg_ref hx hb hts in_X0 hown hE hP 0 (xl_n hA (by decide)) rfl rfl 1 rfl (by decide) (hts _ q265) (fun _ h9 => h9) dX0_rule_30 ?_
        refine mg_refN hx hb hts in_X4 hown hE hP 1 (xl_n hA (by decide)) rfl rfl 2 rfl (by decide) q149 (fun _ h9 => h9) dX0_rule_33 ?_
        refine lv_iload_n hx hb dX0_rule_36 rfl (lv_at hl 1 rfl) ?_
        refine mg_ild hx hb hE hP 10 (xl_n hA (by decide)) rfl (tn a) (by omega) (ik_eq c_2) (by decide) dX0_rule_37 ?_
        refine lv_istore_n (lv' := [(3, .int (σ 10 (tn a))), (0, .ref (ad 0)), (1, .int a), (2, .int v)]) hx hb dX0_rule_38 rfl hl (by decide) rfl (fun ls hl => ?_)
        refine lv_aload_n hx hb dX0_rule_39 rfl (lv_at hl 1 rfl) ?_
        refine mg_ref hx hb hts in_X0 hown hE hP 0 (xl_n hA (by decide)) rfl rfl 1 rfl (by decide) (hts _ q265) (fun _ h9 => h9) dX0_rule_40 ?_
        refine mg_refN hx hb hts in_X4 hown hE hP 1 (xl_n hA (by decide)) rfl rfl 2 rfl (by decide) q149 (fun _ h9 => h9) dX0_rule_43 ?_
        refine lv_iload_n hx hb dX0_rule_46 rfl (lv_at hl 2 rfl) ?_
        refine lv_iload_n hx hb dX0_rule_47 rfl (lv_at hl 3 rfl) ?_
        refine mg_ist (v := v) hx hb hE hD hP hS 10 (xl_n hA (by decide)) rfl (tn a) (by omega) (ik_eq c_2) (by decide) dX0_rule_48 (fun H locs hP hS => ?_)
        refine lv_iload_n hx hb dX0_rule_49 rfl (lv_at hl 0 rfl) ?_
        exact W.iret (v := σ 10 (tn a)) hx hb hr (fun t ht hW => ⟨⟨_, _, rfl, by dsimp only; rw [if_pos c_2, if_neg nc_3, if_pos c_5]; exact ⟨rfl, rfl⟩, mB.of ht hP⟩, hS.F ht⟩) hS.2.2 dX0_rule_50
      · have c_5 : ¬ (ik v 10) := bi_f c_5
        refine lv_iconst (v := (-1)) hx hb dX0_rule_27 (by decide) ?_
        exact W.iret (v := (-1)) hx hb hr (fun t ht hW => ⟨⟨_, _, rfl, by dsimp only; rw [if_pos c_2, if_neg nc_3, if_neg c_5]; exact ⟨rfl, rfl⟩, mB.of ht hP⟩, hS.F ht⟩) hS.2.2 dX0_rule_28
    · have nc_3 : tn a = 0 := mi_eq (ik_eq c_2) rfl (by omega) (by omega) c_3
      refine lv_iconst (v := 2) hx hb dX0_rule_15 (by decide) ?_
      refine lv_goto (tgt := 21) hx hb dX0_rule_16 (by decide) ?_
      refine vp_callSi (W.runS (As := [.int v, .int 0, .int 2]) (rest := []) ⟨hx, hb, hml, hown, hts⟩ (mt_X0_isIn l v 0 2) (va_cwS 3 hts (lw_S q344 q345 q45 q346) rfl rfl rfl (by decide +kernel) ⟨Nat.le_of_ble_eq_true rfl, Nat.le_of_ble_eq_true rfl⟩) ⟨fun _ _ _ _ h => h, fun _ _ _ => ⟨rfl, trivial⟩⟩ rfl rfl hl.1 rfl (lv_room (Nat.le_of_ble_eq_true rfl)) dX0_rule_21 ⟨Nat.le_of_ble_eq_true rfl, Nat.le_of_ble_eq_true rfl⟩) (fun r_6 hr_6 => ?_)
      subst hr_6
      refine lv_rwi (bi_c (ik_of (n := 3) rfl rfl)) ?_
      refine lv_if_ne (tgt := 29) hx hb dX0_rule_24 (by decide) (fun c_7 => ?_) (fun c_7 => ?_)
      · have c_7 : ik v 3 := bi_t c_7
        have c_7_lt := ik_lt c_7
        refine lv_aload_n hx hb dX0_rule_29 rfl (lv_at hl 0 rfl) ?_
        refine mg_ref hx hb hts in_X0 hown hE hP 0 (xl_n hA (by decide)) rfl rfl 1 rfl (by decide) (hts _ q265) (fun _ h9 => h9) dX0_rule_30 ?_
        refine mg_refN hx hb hts in_X4 hown hE hP 1 (xl_n hA (by decide)) rfl rfl 2 rfl (by decide) q149 (fun _ h9 => h9) dX0_rule_33 ?_
        refine lv_iload_n hx hb dX0_rule_36 rfl (lv_at hl 1 rfl) ?_
        refine mg_ild hx hb hE hP 10 (xl_n hA (by decide)) rfl (tn a) (by omega) (ik_eq c_2) (by decide) dX0_rule_37 ?_
        refine lv_istore_n (lv' := [(3, .int (σ 10 (tn a))), (0, .ref (ad 0)), (1, .int a), (2, .int v)]) hx hb dX0_rule_38 rfl hl (by decide) rfl (fun ls hl => ?_)
        refine lv_aload_n hx hb dX0_rule_39 rfl (lv_at hl 1 rfl) ?_
        refine mg_ref hx hb hts in_X0 hown hE hP 0 (xl_n hA (by decide)) rfl rfl 1 rfl (by decide) (hts _ q265) (fun _ h9 => h9) dX0_rule_40 ?_
        refine mg_refN hx hb hts in_X4 hown hE hP 1 (xl_n hA (by decide)) rfl rfl 2 rfl (by decide) q149 (fun _ h9 => h9) dX0_rule_43 ?_
        refine lv_iload_n hx hb dX0_rule_46 rfl (lv_at hl 2 rfl) ?_
        refine lv_iload_n hx hb dX0_rule_47 rfl (lv_at hl 3 rfl) ?_
        refine mg_ist (v := v) hx hb hE hD hP hS 10 (xl_n hA (by decide)) rfl (tn a) (by omega) (ik_eq c_2) (by decide) dX0_rule_48 (fun H locs hP hS => ?_)
        refine lv_iload_n hx hb dX0_rule_49 rfl (lv_at hl 0 rfl) ?_
        exact W.iret (v := σ 10 (tn a)) hx hb hr (fun t ht hW => ⟨⟨_, _, rfl, by dsimp only; rw [if_pos c_2, if_pos nc_3, if_pos c_7]; exact ⟨rfl, rfl⟩, mB.of ht hP⟩, hS.F ht⟩) hS.2.2 dX0_rule_50
      · have c_7 : ¬ (ik v 3) := bi_f c_7
        refine lv_iconst (v := (-1)) hx hb dX0_rule_27 (by decide) ?_
        exact W.iret (v := (-1)) hx hb hr (fun t ht hW => ⟨⟨_, _, rfl, by dsimp only; rw [if_pos c_2, if_pos nc_3, if_neg c_7]; exact ⟨rfl, rfl⟩, mB.of ht hP⟩, hS.F ht⟩) hS.2.2 dX0_rule_28
set_option maxHeartbeats 4000000 in
set_option maxRecDepth 100000 in
theorem mt_X0_count (l : Launch) (D : va_G) (dA : Nat → ClassId) (rr : Nat → Option Nat) (xs : Nat → mSh) (ad : Nat → Nat) (N : Nat) (hA : xA ad N) (σ : mMem) (a : Int32) (np : Nat) (nc : Nat → Nat) (ld : Nat → Nat → Nat) (hF : xF σ np nc ld) : Met l yX0_count (ws_ yX0_count cX0_count 5 (some .int)) ({ frames := 0, cells := 0, slots := 0, locals := 0 }) (va_Pc [.ref (ad 0), .int a] (mPre D dA (shX rr xs) ad N σ)) (vp_Si (fun r : Int32 => r = cntX σ np a)) 0 0 (fun _ => False) := by
  refine Met.ofW (cc := cX0_count) (maxL := 5) (ret := (some .int)) (by decide) rfl ?_
  intro pp ee ss mm args below meth cd s₁ B hml hv
  obtain ⟨rfl, hP, hE⟩ := hv
  have hx := B.exec
  have hb := B.bytes
  have hr := B.returns
  have hts := atoms_spec (ws := ws_ yX0_count cX0_count 5 (some .int)) B.pre
  have hts : ∀ w ∈ lw_all, w.before _ ss = true := fun w h => hts w (List.mem_cons_of_mem _ h)
  have hown : ss.vm.findClass RX0 = some mm.cls := findClass_of_methodNamed B.named
  have hlocks := B.notSynchronized
  have hNN := hA.1
  have hn5 := hF.n5
  have hl := lv_entry ([.ref (ad 0), .int a]) (n := 5) (Nat.le_of_ble_eq_true rfl)
  rw [lg_entry_eq]
  generalize (lg_sl ([.ref (ad 0), .int a]) ++ List.replicate (5 - (lg_sl ([.ref (ad 0), .int a])).length) Slot.unset).toArray = ls at hl ⊢
  have hl : lv_has ls 5 [(0, .ref (ad 0)), (1, .int a)] := hl
  refine lv_iconst (v := 0) hx hb dX0_count_0 (by decide) ?_
  refine lv_istore_n (lv' := [(2, .int 0), (0, .ref (ad 0)), (1, .int a)]) hx hb dX0_count_1 rfl hl (by decide) rfl (fun ls hl => ?_)
  refine lv_iconst (v := 0) hx hb dX0_count_2 (by decide) ?_
  refine lv_istore_n (lv' := [(3, .int 0), (2, .int 0), (0, .ref (ad 0)), (1, .int a)]) hx hb dX0_count_3 rfl hl (by decide) rfl (fun ls hl => ?_)
  refine lv_iconst (v := 0) hx hb dX0_count_4 (by decide) ?_
  refine lv_istore (lv' := [(4, .int 0), (3, .int 0), (2, .int 0), (0, .ref (ad 0)), (1, .int a)]) hx hb dX0_count_5 hl (by decide) rfl (fun ls hl => ?_)
  have lp7 : ∀ (fu : Nat) (p : Nat) (G : Int32) (_ : p ≤ np) (_ : G = cnf σ p) (_ : np - p < fu) (ls : Array Slot) (_ : lv_has ls 5 [(4, .int (nI p)), (3, .int G), (2, .int (cnc σ p)), (0, .ref (ad 0)), (1, .int a)]), W pp l ee (headSpec (ws_ yX0_count cX0_count 5 (some .int)) ({ frames := 0, cells := 0, slots := 0, locals := 0 })).room ss mm ([.ref (ad 0), .int a] : List Value).toArray below meth cd ss.heap [] 0 0 (MQ below (vp_Si (fun r : Int32 => r = cntX σ np a)) ([.ref (ad 0), .int a] : List Value).toArray ss 0 0 (fun _ => False)) (F0 mm 7 ls []) := by
    intro fu
    induction fu with
    | zero => intro p G hp hG0 hfu; exact absurd hfu (Nat.not_lt_zero _)
    | succ fu ih7 =>
      intro p G hp hG0 hfu ls hl
      refine lv_iload hx hb dX0_count_7 (lv_at hl 0 rfl) ?_
      refine lv_aload_n hx hb dX0_count_9 rfl (lv_at hl 3 rfl) ?_
      refine mg_ref hx hb hts in_X0 hown hE hP 0 (xl_n hA (by decide)) rfl rfl 1 rfl (by decide) (hts _ q265) (fun _ h9 => h9) dX0_count_10 ?_
      refine mg_getN hx hb hts in_X4 hown hE hP 1 (xl_n hA (by decide)) rfl rfl 3 rfl (by decide) q151 (fun _ h9 => h9) dX0_count_13 ?_
      refine lv_icmp_ge (tgt := 68) hx hb dX0_count_16 (by decide) (fun c_1 => ?_) (fun c_1 => ?_)
      · have nc_1 : np ≤ p := mi_le hF.n rfl (by omega) (by omega) c_1
        refine lv_iload_n hx hb dX0_count_68 rfl (lv_at hl 4 rfl) ?_
        by_cases sw_2 : a = 0
        · refine lv_rwi sw_2 ?_
          refine lv_tableIn (tgt := 108) hx hb dX0_count_69 (by decide) (by decide) rfl (by decide) ?_
          refine lv_aload_n hx hb dX0_count_108 rfl (lv_at hl 3 rfl) ?_
          refine mg_ref hx hb hts in_X0 hown hE hP 0 (xl_n hA (by decide)) rfl rfl 1 rfl (by decide) (hts _ q265) (fun _ h9 => h9) dX0_count_109 ?_
          refine mg_getN hx hb hts in_X4 hown hE hP 1 (xl_n hA (by decide)) rfl rfl 3 rfl (by decide) q151 (fun _ h9 => h9) dX0_count_112 ?_
          exact W.iret (v := σ 1 3) hx hb hr (fun t ht hW => ⟨_, rfl, by dsimp only; rw [cntX, if_pos sw_2], ht⟩) (fun q hq => by cases hq) dX0_count_115
        by_cases sw_3 : a = 1
        · refine lv_rwi sw_3 ?_
          refine lv_tableIn (tgt := 116) hx hb dX0_count_69 (by decide) (by decide) rfl (by decide) ?_
          refine lv_aload_n hx hb dX0_count_116 rfl (lv_at hl 3 rfl) ?_
          refine mg_ref hx hb hts in_X0 hown hE hP 0 (xl_n hA (by decide)) rfl rfl 1 rfl (by decide) (hts _ q265) (fun _ h9 => h9) dX0_count_117 ?_
          refine mg_getN hx hb hts in_X4 hown hE hP 1 (xl_n hA (by decide)) rfl rfl 4 rfl (by decide) q153 (fun _ h9 => h9) dX0_count_120 ?_
          exact W.iret (v := σ 1 4) hx hb hr (fun t ht hW => ⟨_, rfl, by dsimp only; rw [cntX, if_neg sw_2, if_pos sw_3], ht⟩) (fun q hq => by cases hq) dX0_count_123
        by_cases sw_4 : a = 2
        · refine lv_rwi sw_4 ?_
          refine lv_tableIn (tgt := 124) hx hb dX0_count_69 (by decide) (by decide) rfl (by decide) ?_
          refine lv_iload_n hx hb dX0_count_124 rfl (lv_at hl 2 rfl) ?_
          exact W.iret (v := (cnc σ p)) hx hb hr (fun t ht hW => ⟨_, rfl, by dsimp only; rw [show p = np by omega, cntX, if_neg sw_2, if_neg sw_3, if_pos sw_4], ht⟩) (fun q hq => by cases hq) dX0_count_125
        by_cases sw_5 : a = 3
        · refine lv_rwi sw_5 ?_
          refine lv_tableIn (tgt := 126) hx hb dX0_count_69 (by decide) (by decide) rfl (by decide) ?_
          refine lv_iload_n hx hb dX0_count_126 rfl (lv_at hl 1 rfl) ?_
          exact W.iret (v := G) hx hb hr (fun t ht hW => ⟨_, rfl, by dsimp only; rw [hG0, show p = np by omega, cntX, if_neg sw_2, if_neg sw_3, if_neg sw_4, if_pos sw_5], ht⟩) (fun q hq => by cases hq) dX0_count_127
        by_cases sw_6 : a = 4
        · refine lv_rwi sw_6 ?_
          refine lv_tableIn (tgt := 128) hx hb dX0_count_69 (by decide) (by decide) rfl (by decide) ?_
          refine lv_aload_n hx hb dX0_count_128 rfl (lv_at hl 3 rfl) ?_
          refine mg_ref hx hb hts in_X0 hown hE hP 0 (xl_n hA (by decide)) rfl rfl 1 rfl (by decide) (hts _ q265) (fun _ h9 => h9) dX0_count_129 ?_
          refine mg_getN hx hb hts in_X4 hown hE hP 1 (xl_n hA (by decide)) rfl rfl 5 rfl (by decide) q155 (fun _ h9 => h9) dX0_count_132 ?_
          exact W.iret (v := σ 1 5) hx hb hr (fun t ht hW => ⟨_, rfl, by dsimp only; rw [cntX, if_neg sw_2, if_neg sw_3, if_neg sw_4, if_neg sw_5, if_pos sw_6], ht⟩) (fun q hq => by cases hq) dX0_count_135
        by_cases sw_7 : a = 5
        · refine lv_rwi sw_7 ?_
          refine lv_tableIn (tgt := 136) hx hb dX0_count_69 (by decide) (by decide) rfl (by decide) ?_
          refine lv_aload_n hx hb dX0_count_136 rfl (lv_at hl 3 rfl) ?_
          refine mg_get hx hb hts in_X0 hown hE hP 0 (xl_n hA (by decide)) rfl rfl 19 rfl (by decide) (hts _ q283) (fun _ h9 => h9) dX0_count_137 ?_
          exact W.iret (v := σ 0 19) hx hb hr (fun t ht hW => ⟨_, rfl, by dsimp only; rw [cntX, if_neg sw_2, if_neg sw_3, if_neg sw_4, if_neg sw_5, if_neg sw_6, if_pos sw_7], ht⟩) (fun q hq => by cases hq) dX0_count_140
        have isw_2 : a.toInt ≠ 0 := fun z => sw_2 (Int32.toInt_inj.mp z)
        have isw_3 : a.toInt ≠ 1 := fun z => sw_3 (Int32.toInt_inj.mp z)
        have isw_4 : a.toInt ≠ 2 := fun z => sw_4 (Int32.toInt_inj.mp z)
        have isw_5 : a.toInt ≠ 3 := fun z => sw_5 (Int32.toInt_inj.mp z)
        have isw_6 : a.toInt ≠ 4 := fun z => sw_6 (Int32.toInt_inj.mp z)
        have isw_7 : a.toInt ≠ 5 := fun z => sw_7 (Int32.toInt_inj.mp z)
        refine lv_tableOut (tgt := 141) hx hb dX0_count_69 (by omega) (by decide) ?_
        refine lv_iconst (v := (-1)) hx hb dX0_count_141 (by decide) ?_
        exact W.iret (v := (-1)) hx hb hr (fun t ht hW => ⟨_, rfl, by dsimp only; rw [cntX, if_neg sw_2, if_neg sw_3, if_neg sw_4, if_neg sw_5, if_neg sw_6, if_neg sw_7], ht⟩) (fun q hq => by cases hq) dX0_count_142
      · have nc_1 : p < np := mi_nle hF.n rfl (by omega) (by omega) c_1
        refine lv_iload_n hx hb dX0_count_19 rfl (lv_at hl 2 rfl) ?_
        refine lv_aload_n hx hb dX0_count_20 rfl (lv_at hl 3 rfl) ?_
        refine mg_ref hx hb hts in_X0 hown hE hP 0 (xl_n hA (by decide)) rfl rfl 1 rfl (by decide) (hts _ q265) (fun _ h9 => h9) dX0_count_21 ?_
        refine mg_refN hx hb hts in_X4 hown hE hP 1 (xl_n hA (by decide)) rfl rfl 0 rfl (by decide) q145 (fun _ h9 => h9) dX0_count_24 ?_
        refine lv_iload hx hb dX0_count_27 (lv_at hl 0 rfl) ?_
        refine mg_ald hx hb hE hP 4 (xl_n hA (by decide)) rfl rfl p (by omega) rfl (by decide) rfl dX0_count_29 ?_
        refine mg_getN hx hb hts in_X5 hown hE hP (30 + 3 * p) (xl_o hA (xw_p0 (p := p) (by omega))) (shX_o (xw_p0 (p := p) (by omega))) rfl 6 rfl (by decide) q127 (fun _ h9 => h9) dX0_count_30 ?_
        refine lv_iadd hx hb dX0_count_33 ?_
        refine lv_istore_n (lv' := [(2, .int ((cnc σ p) + σ (30 + 3 * p) 6)), (4, .int (nI p)), (3, .int G), (0, .ref (ad 0)), (1, .int a)]) hx hb dX0_count_34 rfl hl (by decide) rfl (fun ls hl => ?_)
        refine lv_iload_n hx hb dX0_count_35 rfl (lv_at hl 2 rfl) ?_
        refine lv_aload_n hx hb dX0_count_36 rfl (lv_at hl 3 rfl) ?_
        refine mg_ref hx hb hts in_X0 hown hE hP 0 (xl_n hA (by decide)) rfl rfl 1 rfl (by decide) (hts _ q265) (fun _ h9 => h9) dX0_count_37 ?_
        refine mg_refN hx hb hts in_X4 hown hE hP 1 (xl_n hA (by decide)) rfl rfl 0 rfl (by decide) q145 (fun _ h9 => h9) dX0_count_40 ?_
        refine lv_iload hx hb dX0_count_43 (lv_at hl 1 rfl) ?_
        refine mg_ald hx hb hE hP 4 (xl_n hA (by decide)) rfl rfl p (by omega) rfl (by decide) rfl dX0_count_45 ?_
        refine mg_getN hx hb hts in_X5 hown hE hP (30 + 3 * p) (xl_o hA (xw_p0 (p := p) (by omega))) (shX_o (xw_p0 (p := p) (by omega))) rfl 3 rfl (by decide) q119 (fun _ h9 => h9) dX0_count_46 ?_
        refine lv_if_lt (tgt := 59) hx hb dX0_count_49 (by decide) (fun c_8 => ?_) (fun c_8 => ?_)
        · skip
          refine lv_iconst (v := 0) hx hb dX0_count_59 (by decide) ?_
          refine lv_ior hx hb dX0_count_60 ?_
          refine lv_istore_n (lv' := [(3, .int (G ||| 0)), (2, .int ((cnc σ p) + σ (30 + 3 * p) 6)), (4, .int (nI p)), (0, .ref (ad 0)), (1, .int a)]) hx hb dX0_count_61 rfl hl (by decide) rfl (fun ls hl => ?_)
          refine lv_iinc (v := (nI (p + 1))) (lv' := [(4, .int (nI (p + 1))), (3, .int (G ||| 0)), (2, .int ((cnc σ p) + σ (30 + 3 * p) 6)), (0, .ref (ad 0)), (1, .int a)]) hx hb dX0_count_62 hl (k := 2) rfl (mi_add rfl rfl) (by decide) rfl (fun ls hl => ?_)
          refine lv_goto (tgt := 7) hx hb dX0_count_65 (by decide) ?_
          exact ih7  (p + 1) (G ||| 0) (by omega) (by rw [hG0, cnf]; simp [c_8]) (by omega) ls (lv_sub hl [0, 1, 2, 3, 4] rfl)
        · skip
          refine lv_iconst (v := 1) hx hb dX0_count_52 (by decide) ?_
          refine lv_iload hx hb dX0_count_53 (lv_at hl 1 rfl) ?_
          refine lv_ishl hx hb dX0_count_55 ?_
          refine lv_goto (tgt := 60) hx hb dX0_count_56 (by decide) ?_
          refine lv_ior hx hb dX0_count_60 ?_
          refine lv_istore_n (lv' := [(3, .int (G ||| (1 <<< ((nI p) &&& 31)))), (2, .int ((cnc σ p) + σ (30 + 3 * p) 6)), (4, .int (nI p)), (0, .ref (ad 0)), (1, .int a)]) hx hb dX0_count_61 rfl hl (by decide) rfl (fun ls hl => ?_)
          refine lv_iinc (v := (nI (p + 1))) (lv' := [(4, .int (nI (p + 1))), (3, .int (G ||| (1 <<< ((nI p) &&& 31)))), (2, .int ((cnc σ p) + σ (30 + 3 * p) 6)), (0, .ref (ad 0)), (1, .int a)]) hx hb dX0_count_62 hl (k := 2) rfl (mi_add rfl rfl) (by decide) rfl (fun ls hl => ?_)
          refine lv_goto (tgt := 7) hx hb dX0_count_65 (by decide) ?_
          exact ih7  (p + 1) (G ||| (1 <<< ((nI p) &&& 31))) (by omega) (by rw [hG0, cnf]; simp [c_8]) (by omega) ls (lv_sub hl [0, 1, 2, 3, 4] rfl)
  exact lp7 (np - 0 + 1) 0 0 (by omega) rfl (by omega) ls (lv_sub hl [0, 1, 2, 3, 4] rfl)
