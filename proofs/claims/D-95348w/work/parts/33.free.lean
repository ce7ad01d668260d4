def okOb (n : Nat) (o : List Nat) : Bool := (List.range n).all (fun d => decide (lf o d < 6) && (decide (cntO (lf o) (lf o d) d ≤ lf o d) && decide (posO (lf o) d < n - d)))
theorem okO_of {o : List Nat} {n : Nat} (h : okOb n o = true) : okO (lf o) n := by
  intro d hd
  have := List.all_eq_true.mp h d (List.mem_range.mpr hd)
  simp only [Bool.and_eq_true, decide_eq_true_eq] at this
  exact ⟨this.1, this.2.1, this.2.2⟩
theorem good_all : ∀ (ru : Fin 3) (n : Fin 7), (dfsL ru.val n.val n.val (2 ^ n.val - 1) []).all (okOb n.val) = true := by decide +kernel
theorem good_ord {ru n : Nat} {o : List Nat} (hr : ru < 3) (hn : n < 7) (h : o ∈ dfsL ru n n (2 ^ n - 1) []) : okO (lf o) n := okO_of (List.all_eq_true.mp (good_all ⟨ru, hr⟩ ⟨n, hn⟩) o h)
/-- the best of all orders -/
def bestX (A : AW) (ru : Nat) : Int32 × Int32 × (Nat → Nat) := List.foldl (stB A) (-1, 0, fun _ => 0) (dfsL ru A.2.2.2.length A.2.2.2.length (2 ^ A.2.2.2.length - 1) [])
def nev (x : Int32) : Int32 := if 0 ≤ x then x else 361
def awo (A : AW) (c : Nat) : AW := (A.1, A.2.1, A.2.2.1, A.2.2.2.eraseIdx c)
theorem awo_n {A : AW} {c : Nat} (h : c < A.2.2.2.length) : (awo A c).2.2.2.length = A.2.2.2.length - 1 := by
  show (A.2.2.2.eraseIdx c).length = _
  rw [List.length_eraseIdx, if_pos h]
def kpS (σ τ : mMem) : Prop := ∀ a b, (a ≠ 20 ∧ a ≠ 21 ∧ a ≠ 75 ∧ a ≠ 76 ∧ a ≠ 77 ∧ a ≠ 78) → ¬ (a = 0 ∧ (b = 13 ∨ b = 14 ∨ b = 15)) → (a ≠ 84 ∧ a ≠ 85 ∧ a ≠ 86) → τ a b = σ a b
theorem sv_kp {σ τ : mMem} {v n c : Nat} (h : kpT σ τ) : (rmv (tkf τ 84 v) 84 n c 10 0 = σ 10 0) ∧ ∀ a b, (a ≠ 20 ∧ a ≠ 21 ∧ a ≠ 75 ∧ a ≠ 76 ∧ a ≠ 77 ∧ a ≠ 78) → ¬ (a = 0 ∧ (b = 13 ∨ b = 14 ∨ b = 15)) → (a ≠ 84 ∧ a ≠ 85 ∧ a ≠ 86) → rmv (tkf τ 84 v) 84 n c a b = σ a b := by
  have key : ∀ a b, (a ≠ 20 ∧ a ≠ 21 ∧ a ≠ 75 ∧ a ≠ 76 ∧ a ≠ 77 ∧ a ≠ 78) → ¬ (a = 0 ∧ (b = 13 ∨ b = 14 ∨ b = 15)) → (a ≠ 84 ∧ a ≠ 85 ∧ a ≠ 86) → rmv (tkf τ 84 v) 84 n c a b = σ a b := by
    intro a b q1 q2 q3
    rw [rmv_ne q3.1 q3.2.2, tkf_ne q3.1 q3.2.1 q3.2.2]
    exact h a b q1 q2
  exact ⟨key 10 0 (by decide) (by decide) (by decide), key⟩
set_option maxHeartbeats 4000000 in
set_option maxRecDepth 100000 in
theorem mt_X0_findBest_0 (l : Launch) (D : va_G) (dA : Nat → ClassId) (rr : Nat → Option Nat) (xs : Nat → mSh) (ad : Nat → Nat) (N : Nat) (hA : xA ad N) (σ : mMem) (v : Nat) (hv : xw v) (hv75 : v ≠ 75) (hv78 : v ≠ 78) (A : AW) (hA0 : aR σ v A) (hn : A.2.2.2.length = 0) (ru : Nat) (hru : σ 10 0 = nI ru) (hru3 : ru < 3) : Met l yX0_findBest (ws_ yX0_findBest cX0_findBest 2 none) ({ frames := 11, cells := 0, slots := 0, locals := 306 }) (va_Pc [.ref (ad 0), .ref (ad v)] (mPre D dA (shX rr xs) ad N σ)) (va_Qv (fun (u : mMem) => bR u 0 (bestX A ru) ∧ kpT σ u) (mB D dA (shX rr xs) ad N) (mAd ad N)) 0 0 (mAd ad N) := by
  refine Met.ofW (cc := cX0_findBest) (maxL := 2) (ret := none) (by decide) rfl ?_
  intro pp ee ss mm args below meth cd s₁ B hml hv
  obtain ⟨rfl, hP, hE⟩ := hv
  have hx := B.exec
  have hb := B.bytes
  have hr := B.returns
  have hts := atoms_spec (ws := ws_ yX0_findBest cX0_findBest 2 none) B.pre
  have hts : ∀ w ∈ lw_all, w.before _ ss = true := fun w h => hts w (List.mem_cons_of_mem _ h)
  have hown : ss.vm.findClass RX0 = some mm.cls := findClass_of_methodNamed B.named
  have hlocks := B.notSynchronized
  have hD := hA.2.self
  have hS : va_S (mAd ad N) ss.heap ss.heap [] := va_S.rf
  have hNN := hA.1
  obtain ⟨hv1, hv2, hv3⟩ := id hv
  have hl := lv_entry ([.ref (ad 0), .ref (ad v)]) (n := 2) (Nat.le_of_ble_eq_true rfl)
  rw [lg_entry_eq]
  generalize (lg_sl ([.ref (ad 0), .ref (ad v)]) ++ List.replicate (2 - (lg_sl ([.ref (ad 0), .ref (ad v)])).length) Slot.unset).toArray = ls at hl ⊢
  have hl : lv_has ls 2 [(0, .ref (ad 0)), (1, .ref (ad v))] := hl
  refine lv_aload_n hx hb dX0_findBest_0 rfl (lv_at hl 0 rfl) ?_
  refine lv_iconst (v := (-1)) hx hb dX0_findBest_1 (by decide) ?_
  refine mg_put (v := (-1)) (ty := .int) hx hb hts in_X0 tyX0 tyX0_ok nmX0 hown hE hD hP hS 0 (xl_n hA (by decide)) rfl rfl 13 rfl (by decide) (hts _ q277) (fun _ h9 => h9) rfl (by decide +kernel) rfl rfl dX0_findBest_2 (fun H locs hP hS => ?_)
  refine lv_aload_n hx hb dX0_findBest_5 rfl (lv_at hl 0 rfl) ?_
  refine lv_iconst (v := 0) hx hb dX0_findBest_6 (by decide) ?_
  refine mg_put (v := 0) (ty := .int) hx hb hts in_X0 tyX0 tyX0_ok nmX0 hown hE hD hP hS 0 (xl_n hA (by decide)) rfl rfl 14 rfl (by decide) (hts _ q278) (fun _ h9 => h9) rfl (by decide +kernel) rfl rfl dX0_findBest_7 (fun H locs hP hS => ?_)
  refine lv_aload_n hx hb dX0_findBest_10 rfl (lv_at hl 0 rfl) ?_
  refine lv_aload_n hx hb dX0_findBest_11 rfl (lv_at hl 1 rfl) ?_
  refine lv_iconst (v := 1) hx hb dX0_findBest_12 (by decide) ?_
  refine lv_aload_n hx hb dX0_findBest_13 rfl (lv_at hl 1 rfl) ?_
  refine mg_getN hx hb hts in_X5 hown hE hP v (xl_o hA hv) (shX_o hv) rfl 6 rfl (by decide) q127 (fun _ h9 => h9) dX0_findBest_14 ?_
  refine lv_rwi ((mup_ne1 (by omega)).trans (mup_ne1 (by omega))) ?_
  refine lv_ishl hx hb dX0_findBest_17 ?_
  refine lv_iconst (v := 1) hx hb dX0_findBest_18 (by decide) ?_
  refine lv_isub hx hb dX0_findBest_19 ?_
  refine lv_iconst (v := 0) hx hb dX0_findBest_20 (by decide) ?_
  refine va_callv (va_runV (As := [.ref (ad v), .int ((1 <<< (σ v 6 &&& 31)) - 1), .int 0]) (rest := []) ⟨hx, hb, hml, hown, hts⟩ (mt_X0_tryOrders_0 l D dA rr xs ad N hA (mup (mup σ 0 13 (-1)) 0 14 0) v hv hv75 A (hA0.keep (fun b => (mup_ne1 (by omega)).trans (mup_ne1 (by omega))) (fun b => (mup_ne1 (by omega)).trans (mup_ne1 (by omega))) (fun b => (mup_ne1 (by omega)).trans (mup_ne1 (by omega)))) 0 hn (by decide) ((1 <<< (σ v 6 &&& 31)) - 1) (by rw [hA0.n, hn]; decide) 0 0 rfl [] (fun j hj => absurd hj (Nat.not_lt_zero _)) (fun j hj => absurd hj (Nat.not_lt_zero _)) (-1, 0, fun _ => 0) ⟨(mup_ne2 (by decide)).trans (mup_self _ _ _ _), mup_self _ _ _ _, fun q => absurd q (by decide)⟩) (cwV 3 hts (lw_V q553 q555 qs17 q45 q556) rfl rfl rfl (by decide +kernel) ⟨Nat.le_of_ble_eq_true rfl, Nat.le_of_ble_eq_true rfl⟩) ⟨mPre.blind, m_recv hE hP 0 (xl_n hA (by decide)) rfl rfl, mPre.at hE hP⟩ rfl rfl hl.1 rfl (lv_room (Nat.le_of_ble_eq_true rfl)) dX0_findBest_21 ⟨Nat.le_of_ble_eq_true rfl, Nat.le_of_ble_eq_true rfl⟩) hS (fun q _ h => h) (fun q h => h) (fun ur_1 tr_1 H locs ht h0 hr_1 hB h1 h2 hS => ?_)
  obtain ⟨hbr, -, hkr⟩ := hr_1
  have hP := mB.get ht hB
  exact W.vret hx hb hr (fun t ht hW => ⟨⟨_, rfl, ⟨by unfold bestX; rw [hn]; exact hbr, kpT_tr (fun a b q1 q2 => by rw [mup_at, if_neg (by omega), mup_at, if_neg (by omega)]) hkr⟩, mB.of ht hP⟩, hS.F ht⟩) hS.2.2 dX0_findBest_24
set_option maxHeartbeats 4000000 in
set_option maxRecDepth 100000 in
theorem mt_X0_findBest_1 (l : Launch) (D : va_G) (dA : Nat → ClassId) (rr : Nat → Option Nat) (xs : Nat → mSh) (ad : Nat → Nat) (N : Nat) (hA : xA ad N) (σ : mMem) (v : Nat) (hv : xw v) (hv75 : v ≠ 75) (hv78 : v ≠ 78) (A : AW) (hA0 : aR σ v A) (hn : A.2.2.2.length = 1) (ru : Nat) (hru : σ 10 0 = nI ru) (hru3 : ru < 3) : Met l yX0_findBest (ws_ yX0_findBest cX0_findBest 2 none) ({ frames := 11, cells := 0, slots := 0, locals := 306 }) (va_Pc [.ref (ad 0), .ref (ad v)] (mPre D dA (shX rr xs) ad N σ)) (va_Qv (fun (u : mMem) => bR u 1 (bestX A ru) ∧ kpT σ u) (mB D dA (shX rr xs) ad N) (mAd ad N)) 0 0 (mAd ad N) := by
  refine Met.ofW (cc := cX0_findBest) (maxL := 2) (ret := none) (by decide) rfl ?_
  intro pp ee ss mm args below meth cd s₁ B hml hv
  obtain ⟨rfl, hP, hE⟩ := hv
  have hx := B.exec
  have hb := B.bytes
  have hr := B.returns
  have hts := atoms_spec (ws := ws_ yX0_findBest cX0_findBest 2 none) B.pre
  have hts : ∀ w ∈ lw_all, w.before _ ss = true := fun w h => hts w (List.mem_cons_of_mem _ h)
  have hown : ss.vm.findClass RX0 = some mm.cls := findClass_of_methodNamed B.named
  have hlocks := B.notSynchronized
  have hD := hA.2.self
  have hS : va_S (mAd ad N) ss.heap ss.heap [] := va_S.rf
  have hNN := hA.1
  obtain ⟨hv1, hv2, hv3⟩ := id hv
  have hl := lv_entry ([.ref (ad 0), .ref (ad v)]) (n := 2) (Nat.le_of_ble_eq_true rfl)
  rw [lg_entry_eq]
  generalize (lg_sl ([.ref (ad 0), .ref (ad v)]) ++ List.replicate (2 - (lg_sl ([.ref (ad 0), .ref (ad v)])).length) Slot.unset).toArray = ls at hl ⊢
  have hl : lv_has ls 2 [(0, .ref (ad 0)), (1, .ref (ad v))] := hl
  refine lv_aload_n hx hb dX0_findBest_0 rfl (lv_at hl 0 rfl) ?_
  refine lv_iconst (v := (-1)) hx hb dX0_findBest_1 (by decide) ?_
  refine mg_put (v := (-1)) (ty := .int) hx hb hts in_X0 tyX0 tyX0_ok nmX0 hown hE hD hP hS 0 (xl_n hA (by decide)) rfl rfl 13 rfl (by decide) (hts _ q277) (fun _ h9 => h9) rfl (by decide +kernel) rfl rfl dX0_findBest_2 (fun H locs hP hS => ?_)
  refine lv_aload_n hx hb dX0_findBest_5 rfl (lv_at hl 0 rfl) ?_
  refine lv_iconst (v := 0) hx hb dX0_findBest_6 (by decide) ?_
  refine mg_put (v := 0) (ty := .int) hx hb hts in_X0 tyX0 tyX0_ok nmX0 hown hE hD hP hS 0 (xl_n hA (by decide)) rfl rfl 14 rfl (by decide) (hts _ q278) (fun _ h9 => h9) rfl (by decide +kernel) rfl rfl dX0_findBest_7 (fun H locs hP hS => ?_)
  refine lv_aload_n hx hb dX0_findBest_10 rfl (lv_at hl 0 rfl) ?_
  refine lv_aload_n hx hb dX0_findBest_11 rfl (lv_at hl 1 rfl) ?_
  refine lv_iconst (v := 1) hx hb dX0_findBest_12 (by decide) ?_
  refine lv_aload_n hx hb dX0_findBest_13 rfl (lv_at hl 1 rfl) ?_
  refine mg_getN hx hb hts in_X5 hown hE hP v (xl_o hA hv) (shX_o hv) rfl 6 rfl (by decide) q127 (fun _ h9 => h9) dX0_findBest_14 ?_
  refine lv_rwi ((mup_ne1 (by omega)).trans (mup_ne1 (by omega))) ?_
  refine lv_ishl hx hb dX0_findBest_17 ?_
  refine lv_iconst (v := 1) hx hb dX0_findBest_18 (by decide) ?_
  refine lv_isub hx hb dX0_findBest_19 ?_
  refine lv_iconst (v := 0) hx hb dX0_findBest_20 (by decide) ?_
  refine va_callv (va_runV (As := [.ref (ad v), .int ((1 <<< (σ v 6 &&& 31)) - 1), .int 0]) (rest := []) ⟨hx, hb, hml, hown, hts⟩ (mt_X0_tryOrders_1 l D dA rr xs ad N hA (mup (mup σ 0 13 (-1)) 0 14 0) v hv hv75 A (hA0.keep (fun b => (mup_ne1 (by omega)).trans (mup_ne1 (by omega))) (fun b => (mup_ne1 (by omega)).trans (mup_ne1 (by omega))) (fun b => (mup_ne1 (by omega)).trans (mup_ne1 (by omega)))) 1 hn (by decide) hv78 ru ((mup_ne1 (by decide)).trans ((mup_ne1 (by decide)).trans hru)) hru3 ((1 <<< (σ v 6 &&& 31)) - 1) 1 (by rw [hA0.n, hn]; decide) (by decide) (by decide) 0 0 rfl [] rfl rfl (fun j hj => absurd hj (Nat.not_lt_zero _)) (fun o ho => good_ord hru3 (by decide) ho) (-1, 0, fun _ => 0) ⟨(mup_ne2 (by decide)).trans (mup_self _ _ _ _), mup_self _ _ _ _, fun q => absurd q (by decide)⟩) (cwV 3 hts (lw_V q553 q555 qs17 q45 q556) rfl rfl rfl (by decide +kernel) ⟨Nat.le_of_ble_eq_true rfl, Nat.le_of_ble_eq_true rfl⟩) ⟨mPre.blind, m_recv hE hP 0 (xl_n hA (by decide)) rfl rfl, mPre.at hE hP⟩ rfl rfl hl.1 rfl (lv_room (Nat.le_of_ble_eq_true rfl)) dX0_findBest_21 ⟨Nat.le_of_ble_eq_true rfl, Nat.le_of_ble_eq_true rfl⟩) hS (fun q _ h => h) (fun q h => h) (fun ur_1 tr_1 H locs ht h0 hr_1 hB h1 h2 hS => ?_)
  obtain ⟨hbr, -, hkr⟩ := hr_1
  have hP := mB.get ht hB
  exact W.vret hx hb hr (fun t ht hW => ⟨⟨_, rfl, ⟨by unfold bestX; rw [hn]; exact hbr, kpT_tr (fun a b q1 q2 => by rw [mup_at, if_neg (by omega), mup_at, if_neg (by omega)]) hkr⟩, mB.of ht hP⟩, hS.F ht⟩) hS.2.2 dX0_findBest_24
set_option maxHeartbeats 4000000 in
set_option maxRecDepth 100000 in
theorem mt_X0_findBest_2 (l : Launch) (D : va_G) (dA : Nat → ClassId) (rr : Nat → Option Nat) (xs : Nat → mSh) (ad : Nat → Nat) (N : Nat) (hA : xA ad N) (σ : mMem) (v : Nat) (hv : xw v) (hv75 : v ≠ 75) (hv78 : v ≠ 78) (A : AW) (hA0 : aR σ v A) (hn : A.2.2.2.length = 2) (ru : Nat) (hru : σ 10 0 = nI ru) (hru3 : ru < 3) : Met l yX0_findBest (ws_ yX0_findBest cX0_findBest 2 none) ({ frames := 11, cells := 0, slots := 0, locals := 306 }) (va_Pc [.ref (ad 0), .ref (ad v)] (mPre D dA (shX rr xs) ad N σ)) (va_Qv (fun (u : mMem) => bR u 2 (bestX A ru) ∧ kpT σ u) (mB D dA (shX rr xs) ad N) (mAd ad N)) 0 0 (mAd ad N) := by
  refine Met.ofW (cc := cX0_findBest) (maxL := 2) (ret := none) (by decide) rfl ?_
  intro pp ee ss mm args below meth cd s₁ B hml hv
  obtain ⟨rfl, hP, hE⟩ := hv
  have hx := B.exec
  have hb := B.bytes
  have hr := B.returns
  have hts := atoms_spec (ws := ws_ yX0_findBest cX0_findBest 2 none) B.pre
  have hts : ∀ w ∈ lw_all, w.before _ ss = true := fun w h => hts w (List.mem_cons_of_mem _ h)
  have hown : ss.vm.findClass RX0 = some mm.cls := findClass_of_methodNamed B.named
  have hlocks := B.notSynchronized
  have hD := hA.2.self
  have hS : va_S (mAd ad N) ss.heap ss.heap [] := va_S.rf
  have hNN := hA.1
  obtain ⟨hv1, hv2, hv3⟩ := id hv
  have hl := lv_entry ([.ref (ad 0), .ref (ad v)]) (n := 2) (Nat.le_of_ble_eq_true rfl)
  rw [lg_entry_eq]
  generalize (lg_sl ([.ref (ad 0), .ref (ad v)]) ++ List.replicate (2 - (lg_sl ([.ref (ad 0), .ref (ad v)])).length) Slot.unset).toArray = ls at hl ⊢
  have hl : lv_has ls 2 [(0, .ref (ad 0)), (1, .ref (ad v))] := hl
  refine lv_aload_n hx hb dX0_findBest_0 rfl (lv_at hl 0 rfl) ?_
  refine lv_iconst (v := (-1)) hx hb dX0_findBest_1 (by decide) ?_
  refine mg_put (v := (-1)) (ty := .int) hx hb hts in_X0 tyX0 tyX0_ok nmX0 hown hE hD hP hS 0 (xl_n hA (by decide)) rfl rfl 13 rfl (by decide) (hts _ q277) (fun _ h9 => h9) rfl (by decide +kernel) rfl rfl dX0_findBest_2 (fun H locs hP hS => ?_)
  refine lv_aload_n hx hb dX0_findBest_5 rfl (lv_at hl 0 rfl) ?_
  refine lv_iconst (v := 0) hx hb dX0_findBest_6 (by decide) ?_
  refine mg_put (v := 0) (ty := .int) hx hb hts in_X0 tyX0 tyX0_ok nmX0 hown hE hD hP hS 0 (xl_n hA (by decide)) rfl rfl 14 rfl (by decide) (hts _ q278) (fun _ h9 => h9) rfl (by decide +kernel) rfl rfl dX0_findBest_7 (fun H locs hP hS => ?_)
  refine lv_aload_n hx hb dX0_findBest_10 rfl (lv_at hl 0 rfl) ?_
  refine lv_aload_n hx hb dX0_findBest_11 rfl (lv_at hl 1 rfl) ?_
  refine lv_iconst (v := 1) hx hb dX0_findBest_12 (by decide) ?_
  refine lv_aload_n hx hb dX0_findBest_13 rfl (lv_at hl 1 rfl) ?_
  refine mg_getN hx hb hts in_X5 hown hE hP v (xl_o hA hv) (shX_o hv) rfl 6 rfl (by decide) q127 (fun _ h9 => h9) dX0_findBest_14 ?_
  refine lv_rwi ((mup_ne1 (by omega)).trans (mup_ne1 (by omega))) ?_
  refine lv_ishl hx hb dX0_findBest_17 ?_
  refine lv_iconst (v := 1) hx hb dX0_findBest_18 (by decide) ?_
  refine lv_isub hx hb dX0_findBest_19 ?_
  refine lv_iconst (v := 0) hx hb dX0_findBest_20 (by decide) ?_
  refine va_callv (va_runV (As := [.ref (ad v), .int ((1 <<< (σ v 6 &&& 31)) - 1), .int 0]) (rest := []) ⟨hx, hb, hml, hown, hts⟩ (mt_X0_tryOrders_2 l D dA rr xs ad N hA (mup (mup σ 0 13 (-1)) 0 14 0) v hv hv75 A (hA0.keep (fun b => (mup_ne1 (by omega)).trans (mup_ne1 (by omega))) (fun b => (mup_ne1 (by omega)).trans (mup_ne1 (by omega))) (fun b => (mup_ne1 (by omega)).trans (mup_ne1 (by omega)))) 2 hn (by decide) hv78 ru ((mup_ne1 (by decide)).trans ((mup_ne1 (by decide)).trans hru)) hru3 ((1 <<< (σ v 6 &&& 31)) - 1) 3 (by rw [hA0.n, hn]; decide) (by decide) (by decide) 0 0 rfl [] rfl rfl (fun j hj => absurd hj (Nat.not_lt_zero _)) (fun o ho => good_ord hru3 (by decide) ho) (-1, 0, fun _ => 0) ⟨(mup_ne2 (by decide)).trans (mup_self _ _ _ _), mup_self _ _ _ _, fun q => absurd q (by decide)⟩) (cwV 3 hts (lw_V q553 q555 qs17 q45 q556) rfl rfl rfl (by decide +kernel) ⟨Nat.le_of_ble_eq_true rfl, Nat.le_of_ble_eq_true rfl⟩) ⟨mPre.blind, m_recv hE hP 0 (xl_n hA (by decide)) rfl rfl, mPre.at hE hP⟩ rfl rfl hl.1 rfl (lv_room (Nat.le_of_ble_eq_true rfl)) dX0_findBest_21 ⟨Nat.le_of_ble_eq_true rfl, Nat.le_of_ble_eq_true rfl⟩) hS (fun q _ h => h) (fun q h => h) (fun ur_1 tr_1 H locs ht h0 hr_1 hB h1 h2 hS => ?_)
  obtain ⟨hbr, -, hkr⟩ := hr_1
  have hP := mB.get ht hB
  exact W.vret hx hb hr (fun t ht hW => ⟨⟨_, rfl, ⟨by unfold bestX; rw [hn]; exact hbr, kpT_tr (fun a b q1 q2 => by rw [mup_at, if_neg (by omega), mup_at, if_neg (by omega)]) hkr⟩, mB.of ht hP⟩, hS.F ht⟩) hS.2.2 dX0_findBest_24
set_option maxHeartbeats 4000000 in
set_option maxRecDepth 100000 in
theorem mt_X0_findBest_3 (l : Launch) (D : va_G) (dA : Nat → ClassId) (rr : Nat → Option Nat) (xs : Nat → mSh) (ad : Nat → Nat) (N : Nat) (hA : xA ad N) (σ : mMem) (v : Nat) (hv : xw v) (hv75 : v ≠ 75) (hv78 : v ≠ 78) (A : AW) (hA0 : aR σ v A) (hn : A.2.2.2.length = 3) (ru : Nat) (hru : σ 10 0 = nI ru) (hru3 : ru < 3) : Met l yX0_findBest (ws_ yX0_findBest cX0_findBest 2 none) ({ frames := 11, cells := 0, slots := 0, locals := 306 }) (va_Pc [.ref (ad 0), .ref (ad v)] (mPre D dA (shX rr xs) ad N σ)) (va_Qv (fun (u : mMem) => bR u 3 (bestX A ru) ∧ kpT σ u) (mB D dA (shX rr xs) ad N) (mAd ad N)) 0 0 (mAd ad N) := by
  refine Met.ofW (cc := cX0_findBest) (maxL := 2) (ret := none) (by decide) rfl ?_
  intro pp ee ss mm args below meth cd s₁ B hml hv
  obtain ⟨rfl, hP, hE⟩ := hv
  have hx := B.exec
  have hb := B.bytes
  have hr := B.returns
  have hts := atoms_spec (ws := ws_ yX0_findBest cX0_findBest 2 none) B.pre
  have hts : ∀ w ∈ lw_all, w.before _ ss = true := fun w h => hts w (List.mem_cons_of_mem _ h)
  have hown : ss.vm.findClass RX0 = some mm.cls := findClass_of_methodNamed B.named
  have hlocks := B.notSynchronized
  have hD := hA.2.self
  have hS : va_S (mAd ad N) ss.heap ss.heap [] := va_S.rf
  have hNN := hA.1
  obtain ⟨hv1, hv2, hv3⟩ := id hv
  have hl := lv_entry ([.ref (ad 0), .ref (ad v)]) (n := 2) (Nat.le_of_ble_eq_true rfl)
  rw [lg_entry_eq]
  generalize (lg_sl ([.ref (ad 0), .ref (ad v)]) ++ List.replicate (2 - (lg_sl ([.ref (ad 0), .ref (ad v)])).length) Slot.unset).toArray = ls at hl ⊢
  have hl : lv_has ls 2 [(0, .ref (ad 0)), (1, .ref (ad v))] := hl
  refine lv_aload_n hx hb dX0_findBest_0 rfl (lv_at hl 0 rfl) ?_
  refine lv_iconst (v := (-1)) hx hb dX0_findBest_1 (by decide) ?_
  refine mg_put (v := (-1)) (ty := .int) hx hb hts in_X0 tyX0 tyX0_ok nmX0 hown hE hD hP hS 0 (xl_n hA (by decide)) rfl rfl 13 rfl (by decide) (hts _ q277) (fun _ h9 => h9) rfl (by decide +kernel) rfl rfl dX0_findBest_2 (fun H locs hP hS => ?_)
  refine lv_aload_n hx hb dX0_findBest_5 rfl (lv_at hl 0 rfl) ?_
  refine lv_iconst (v := 0) hx hb dX0_findBest_6 (by decide) ?_
  refine mg_put (v := 0) (ty := .int) hx hb hts in_X0 tyX0 tyX0_ok nmX0 hown hE hD hP hS 0 (xl_n hA (by decide)) rfl rfl 14 rfl (by decide) (hts _ q278) (fun _ h9 => h9) rfl (by decide +kernel) rfl rfl dX0_findBest_7 (fun H locs hP hS => ?_)
  refine lv_aload_n hx hb dX0_findBest_10 rfl (lv_at hl 0 rfl) ?_
  refine lv_aload_n hx hb dX0_findBest_11 rfl (lv_at hl 1 rfl) ?_
  refine lv_iconst (v := 1) hx hb dX0_findBest_12 (by decide) ?_
  refine lv_aload_n hx hb dX0_findBest_13 rfl (lv_at hl 1 rfl) ?_
  refine mg_getN hx hb hts in_X5 hown hE hP v (xl_o hA hv) (shX_o hv) rfl 6 rfl (by decide) q127 (fun _ h9 => h9) dX0_findBest_14 ?_
  refine lv_rwi ((mup_ne1 (by omega)).trans (mup_ne1 (by omega))) ?_
  refine lv_ishl hx hb dX0_findBest_17 ?_
  refine lv_iconst (v := 1) hx hb dX0_findBest_18 (by decide) ?_
  refine lv_isub hx hb dX0_findBest_19 ?_
  refine lv_iconst (v := 0) hx hb dX0_findBest_20 (by decide) ?_
  refine va_callv (va_runV (As := [.ref (ad v), .int ((1 <<< (σ v 6 &&& 31)) - 1), .int 0]) (rest := []) ⟨hx, hb, hml, hown, hts⟩ (mt_X0_tryOrders_3 l D dA rr xs ad N hA (mup (mup σ 0 13 (-1)) 0 14 0) v hv hv75 A (hA0.keep (fun b => (mup_ne1 (by omega)).trans (mup_ne1 (by omega))) (fun b => (mup_ne1 (by omega)).trans (mup_ne1 (by omega))) (fun b => (mup_ne1 (by omega)).trans (mup_ne1 (by omega)))) 3 hn (by decide) hv78 ru ((mup_ne1 (by decide)).trans ((mup_ne1 (by decide)).trans hru)) hru3 ((1 <<< (σ v 6 &&& 31)) - 1) 7 (by rw [hA0.n, hn]; decide) (by decide) (by decide) 0 0 rfl [] rfl rfl (fun j hj => absurd hj (Nat.not_lt_zero _)) (fun o ho => good_ord hru3 (by decide) ho) (-1, 0, fun _ => 0) ⟨(mup_ne2 (by decide)).trans (mup_self _ _ _ _), mup_self _ _ _ _, fun q => absurd q (by decide)⟩) (cwV 3 hts (lw_V q553 q555 qs17 q45 q556) rfl rfl rfl (by decide +kernel) ⟨Nat.le_of_ble_eq_true rfl, Nat.le_of_ble_eq_true rfl⟩) ⟨mPre.blind, m_recv hE hP 0 (xl_n hA (by decide)) rfl rfl, mPre.at hE hP⟩ rfl rfl hl.1 rfl (lv_room (Nat.le_of_ble_eq_true rfl)) dX0_findBest_21 ⟨Nat.le_of_ble_eq_true rfl, Nat.le_of_ble_eq_true rfl⟩) hS (fun q _ h => h) (fun q h => h) (fun ur_1 tr_1 H locs ht h0 hr_1 hB h1 h2 hS => ?_)
  obtain ⟨hbr, -, hkr⟩ := hr_1
  have hP := mB.get ht hB
  exact W.vret hx hb hr (fun t ht hW => ⟨⟨_, rfl, ⟨by unfold bestX; rw [hn]; exact hbr, kpT_tr (fun a b q1 q2 => by rw [mup_at, if_neg (by omega), mup_at, if_neg (by omega)]) hkr⟩, mB.of ht hP⟩, hS.F ht⟩) hS.2.2 dX0_findBest_24
set_option maxHeartbeats 4000000 in
set_option maxRecDepth 100000 in
theorem mt_X0_findBest_4 (l : Launch) (D : va_G) (dA : Nat → ClassId) (rr : Nat → Option Nat) (xs : Nat → mSh) (ad : Nat → Nat) (N : Nat) (hA : xA ad N) (σ : mMem) (v : Nat) (hv : xw v) (hv75 : v ≠ 75) (hv78 : v ≠ 78) (A : AW) (hA0 : aR σ v A) (hn : A.2.2.2.length = 4) (ru : Nat) (hru : σ 10 0 = nI ru) (hru3 : ru < 3) : Met l yX0_findBest (ws_ yX0_findBest cX0_findBest 2 none) ({ frames := 11, cells := 0, slots := 0, locals := 306 }) (va_Pc [.ref (ad 0), .ref (ad v)] (mPre D dA (shX rr xs) ad N σ)) (va_Qv (fun (u : mMem) => bR u 4 (bestX A ru) ∧ kpT σ u) (mB D dA (shX rr xs) ad N) (mAd ad N)) 0 0 (mAd ad N) := by
  refine Met.ofW (cc := cX0_findBest) (maxL := 2) (ret := none) (by decide) rfl ?_
  intro pp ee ss mm args below meth cd s₁ B hml hv
  obtain ⟨rfl, hP, hE⟩ := hv
  have hx := B.exec
  have hb := B.bytes
  have hr := B.returns
  have hts := atoms_spec (ws := ws_ yX0_findBest cX0_findBest 2 none) B.pre
  have hts : ∀ w ∈ lw_all, w.before _ ss = true := fun w h => hts w (List.mem_cons_of_mem _ h)
  have hown : ss.vm.findClass RX0 = some mm.cls := findClass_of_methodNamed B.named
  have hlocks := B.notSynchronized
  have hD := hA.2.self
  have hS : va_S (mAd ad N) ss.heap ss.heap [] := va_S.rf
  have hNN := hA.1
  obtain ⟨hv1, hv2, hv3⟩ := id hv
  have hl := lv_entry ([.ref (ad 0), .ref (ad v)]) (n := 2) (Nat.le_of_ble_eq_true rfl)
  rw [lg_entry_eq]
  generalize (lg_sl ([.ref (ad 0), .ref (ad v)]) ++ List.replicate (2 - (lg_sl ([.ref (ad 0), .ref (ad v)])).length) Slot.unset).toArray = ls at hl ⊢
  have hl : lv_has ls 2 [(0, .ref (ad 0)), (1, .ref (ad v))] := hl
  refine lv_aload_n hx hb dX0_findBest_0 rfl (lv_at hl 0 rfl) ?_
  refine lv_iconst (v := (-1)) hx hb dX0_findBest_1 (by decide) ?_
  refine mg_put (v := (-1)) (ty := .int) hx hb hts in_X0 tyX0 tyX0_ok nmX0 hown hE hD hP hS 0 (xl_n hA (by decide)) rfl rfl 13 rfl (by decide) (hts _ q277) (fun _ h9 => h9) rfl (by decide +kernel) rfl rfl dX0_findBest_2 (fun H locs hP hS => ?_)
  refine lv_aload_n hx hb dX0_findBest_5 rfl (lv_at hl 0 rfl) ?_
  refine lv_iconst (v := 0) hx hb dX0_findBest_6 (by decide) ?_
  refine mg_put (v := 0) (ty := .int) hx hb hts in_X0 tyX0 tyX0_ok nmX0 hown hE hD hP hS 0 (xl_n hA (by decide)) rfl rfl 14 rfl (by decide) (hts _ q278) (fun _ h9 => h9) rfl (by decide +kernel) rfl rfl dX0_findBest_7 (fun H locs hP hS => ?_)
  refine lv_aload_n hx hb dX0_findBest_10 rfl (lv_at hl 0 rfl) ?_
  refine lv_aload_n hx hb dX0_findBest_11 rfl (lv_at hl 1 rfl) ?_
  refine lv_iconst (v := 1) hx hb dX0_findBest_12 (by decide) ?_
  refine lv_aload_n hx hb dX0_findBest_13 rfl (lv_at hl 1 rfl) ?_
  refine mg_getN hx hb hts in_X5 hown hE hP v (xl_o hA hv) (shX_o hv) rfl 6 rfl (by decide) q127 (fun _ h9 => h9) dX0_findBest_14 ?_
  refine lv_rwi ((mup_ne1 (by omega)).trans (mup_ne1 (by omega))) ?_
  refine lv_ishl hx hb dX0_findBest_17 ?_
  refine lv_iconst (v := 1) hx hb dX0_findBest_18 (by decide) ?_
  refine lv_isub hx hb dX0_findBest_19 ?_
  refine lv_iconst (v := 0) hx hb dX0_findBest_20 (by decide) ?_
  refine va_callv (va_runV (As := [.ref (ad v), .int ((1 <<< (σ v 6 &&& 31)) - 1), .int 0]) (rest := []) ⟨hx, hb, hml, hown, hts⟩ (mt_X0_tryOrders_4 l D dA rr xs ad N hA (mup (mup σ 0 13 (-1)) 0 14 0) v hv hv75 A (hA0.keep (fun b => (mup_ne1 (by omega)).trans (mup_ne1 (by omega))) (fun b => (mup_ne1 (by omega)).trans (mup_ne1 (by omega))) (fun b => (mup_ne1 (by omega)).trans (mup_ne1 (by omega)))) 4 hn (by decide) hv78 ru ((mup_ne1 (by decide)).trans ((mup_ne1 (by decide)).trans hru)) hru3 ((1 <<< (σ v 6 &&& 31)) - 1) 15 (by rw [hA0.n, hn]; decide) (by decide) (by decide) 0 0 rfl [] rfl rfl (fun j hj => absurd hj (Nat.not_lt_zero _)) (fun o ho => good_ord hru3 (by decide) ho) (-1, 0, fun _ => 0) ⟨(mup_ne2 (by decide)).trans (mup_self _ _ _ _), mup_self _ _ _ _, fun q => absurd q (by decide)⟩) (cwV 3 hts (lw_V q553 q555 qs17 q45 q556) rfl rfl rfl (by decide +kernel) ⟨Nat.le_of_ble_eq_true rfl, Nat.le_of_ble_eq_true rfl⟩) ⟨mPre.blind, m_recv hE hP 0 (xl_n hA (by decide)) rfl rfl, mPre.at hE hP⟩ rfl rfl hl.1 rfl (lv_room (Nat.le_of_ble_eq_true rfl)) dX0_findBest_21 ⟨Nat.le_of_ble_eq_true rfl, Nat.le_of_ble_eq_true rfl⟩) hS (fun q _ h => h) (fun q h => h) (fun ur_1 tr_1 H locs ht h0 hr_1 hB h1 h2 hS => ?_)
  obtain ⟨hbr, -, hkr⟩ := hr_1
  have hP := mB.get ht hB
  exact W.vret hx hb hr (fun t ht hW => ⟨⟨_, rfl, ⟨by unfold bestX; rw [hn]; exact hbr, kpT_tr (fun a b q1 q2 => by rw [mup_at, if_neg (by omega), mup_at, if_neg (by omega)]) hkr⟩, mB.of ht hP⟩, hS.F ht⟩) hS.2.2 dX0_findBest_24
set_option maxHeartbeats 4000000 in
set_option maxRecDepth 100000 in
theorem mt_X0_findBest_5 (l : Launch) (D : va_G) (dA : Nat → ClassId) (rr : Nat → Option Nat) (xs : Nat → mSh) (ad : Nat → Nat) (N : Nat) (hA : xA ad N) (σ : mMem) (v : Nat) (hv : xw v) (hv75 : v ≠ 75) (hv78 : v ≠ 78) (A : AW) (hA0 : aR σ v A) (hn : A.2.2.2.length = 5) (ru : Nat) (hru : σ 10 0 = nI ru) (hru3 : ru < 3) : Met l yX0_findBest (ws_ yX0_findBest cX0_findBest 2 none) ({ frames := 11, cells := 0, slots := 0, locals := 306 }) (va_Pc [.ref (ad 0), .ref (ad v)] (mPre D dA (shX rr xs) ad N σ)) (va_Qv (fun (u : mMem) => bR u 5 (bestX A ru) ∧ kpT σ u) (mB D dA (shX rr xs) ad N) (mAd ad N)) 0 0 (mAd ad N) := by
  refine Met.ofW (cc := cX0_findBest) (maxL := 2) (ret := none) (by decide) rfl ?_
  intro pp ee ss mm args below meth cd s₁ B hml hv
  obtain ⟨rfl, hP, hE⟩ := hv
  have hx := B.exec
  have hb := B.bytes
  have hr := B.returns
  have hts := atoms_spec (ws := ws_ yX0_findBest cX0_findBest 2 none) B.pre
  have hts : ∀ w ∈ lw_all, w.before _ ss = true := fun w h => hts w (List.mem_cons_of_mem _ h)
  have hown : ss.vm.findClass RX0 = some mm.cls := findClass_of_methodNamed B.named
  have hlocks := B.notSynchronized
  have hD := hA.2.self
  have hS : va_S (mAd ad N) ss.heap ss.heap [] := va_S.rf
  have hNN := hA.1
  obtain ⟨hv1, hv2, hv3⟩ := id hv
  have hl := lv_entry ([.ref (ad 0), .ref (ad v)]) (n := 2) (Nat.le_of_ble_eq_true rfl)
  rw [lg_entry_eq]
  generalize (lg_sl ([.ref (ad 0), .ref (ad v)]) ++ List.replicate (2 - (lg_sl ([.ref (ad 0), .ref (ad v)])).length) Slot.unset).toArray = ls at hl ⊢
  have hl : lv_has ls 2 [(0, .ref (ad 0)), (1, .ref (ad v))] := hl
  refine lv_aload_n hx hb dX0_findBest_0 rfl (lv_at hl 0 rfl) ?_
  refine lv_iconst (v := (-1)) hx hb dX0_findBest_1 (by decide) ?_
  refine mg_put (v := (-1)) (ty := .int) hx hb hts in_X0 tyX0 tyX0_ok nmX0 hown hE hD hP hS 0 (xl_n hA (by decide)) rfl rfl 13 rfl (by decide) (hts _ q277) (fun _ h9 => h9) rfl (by decide +kernel) rfl rfl dX0_findBest_2 (fun H locs hP hS => ?_)
  refine lv_aload_n hx hb dX0_findBest_5 rfl (lv_at hl 0 rfl) ?_
  refine lv_iconst (v := 0) hx hb dX0_findBest_6 (by decide) ?_
  refine mg_put (v := 0) (ty := .int) hx hb hts in_X0 tyX0 tyX0_ok nmX0 hown hE hD hP hS 0 (xl_n hA (by decide)) rfl rfl 14 rfl (by decide) (hts _ q278) (fun _ h9 => h9) rfl (by decide +kernel) rfl rfl dX0_findBest_7 (fun H locs hP hS => ?_)
  refine lv_aload_n hx hb dX0_findBest_10 rfl (lv_at hl 0 rfl) ?_
  refine lv_aload_n hx hb dX0_findBest_11 rfl (lv_at hl 1 rfl) ?_
  refine lv_iconst (v := 1) hx hb dX0_findBest_12 (by decide) ?_
  refine lv_aload_n hx hb dX0_findBest_13 rfl (lv_at hl 1 rfl) ?_
  refine mg_getN hx hb hts in_X5 hown hE hP v (xl_o hA hv) (shX_o hv) rfl 6 rfl (by decide) q127 (fun _ h9 => h9) dX0_findBest_14 ?_
  refine lv_rwi ((mup_ne1 (by omega)).trans (mup_ne1 (by omega))) ?_
  refine lv_ishl hx hb dX0_findBest_17 ?_
  refine lv_iconst (v := 1) hx hb dX0_findBest_18 (by decide) ?_
  refine lv_isub hx hb dX0_findBest_19 ?_
  refine lv_iconst (v := 0) hx hb dX0_findBest_20 (by decide) ?_
  refine va_callv (va_runV (As := [.ref (ad v), .int ((1 <<< (σ v 6 &&& 31)) - 1), .int 0]) (rest := []) ⟨hx, hb, hml, hown, hts⟩ (mt_X0_tryOrders_5 l D dA rr xs ad N hA (mup (mup σ 0 13 (-1)) 0 14 0) v hv hv75 A (hA0.keep (fun b => (mup_ne1 (by omega)).trans (mup_ne1 (by omega))) (fun b => (mup_ne1 (by omega)).trans (mup_ne1 (by omega))) (fun b => (mup_ne1 (by omega)).trans (mup_ne1 (by omega)))) 5 hn (by decide) hv78 ru ((mup_ne1 (by decide)).trans ((mup_ne1 (by decide)).trans hru)) hru3 ((1 <<< (σ v 6 &&& 31)) - 1) 31 (by rw [hA0.n, hn]; decide) (by decide) (by decide) 0 0 rfl [] rfl rfl (fun j hj => absurd hj (Nat.not_lt_zero _)) (fun o ho => good_ord hru3 (by decide) ho) (-1, 0, fun _ => 0) ⟨(mup_ne2 (by decide)).trans (mup_self _ _ _ _), mup_self _ _ _ _, fun q => absurd q (by decide)⟩) (cwV 3 hts (lw_V q553 q555 qs17 q45 q556) rfl rfl rfl (by decide +kernel) ⟨Nat.le_of_ble_eq_true rfl, Nat.le_of_ble_eq_true rfl⟩) ⟨mPre.blind, m_recv hE hP 0 (xl_n hA (by decide)) rfl rfl, mPre.at hE hP⟩ rfl rfl hl.1 rfl (lv_room (Nat.le_of_ble_eq_true rfl)) dX0_findBest_21 ⟨Nat.le_of_ble_eq_true rfl, Nat.le_of_ble_eq_true rfl⟩) hS (fun q _ h => h) (fun q h => h) (fun ur_1 tr_1 H locs ht h0 hr_1 hB h1 h2 hS => ?_)
  obtain ⟨hbr, -, hkr⟩ := hr_1
  have hP := mB.get ht hB
  exact W.vret hx hb hr (fun t ht hW => ⟨⟨_, rfl, ⟨by unfold bestX; rw [hn]; exact hbr, kpT_tr (fun a b q1 q2 => by rw [mup_at, if_neg (by omega), mup_at, if_neg (by omega)]) hkr⟩, mB.of ht hP⟩, hS.F ht⟩) hS.2.2 dX0_findBest_24
set_option maxHeartbeats 4000000 in
set_option maxRecDepth 100000 in
theorem mt_X0_findBest_6 (l : Launch) (D : va_G) (dA : Nat → ClassId) (rr : Nat → Option Nat) (xs : Nat → mSh) (ad : Nat → Nat) (N : Nat) (hA : xA ad N) (σ : mMem) (v : Nat) (hv : xw v) (hv75 : v ≠ 75) (hv78 : v ≠ 78) (A : AW) (hA0 : aR σ v A) (hn : A.2.2.2.length = 6) (ru : Nat) (hru : σ 10 0 = nI ru) (hru3 : ru < 3) : Met l yX0_findBest (ws_ yX0_findBest cX0_findBest 2 none) ({ frames := 11, cells := 0, slots := 0, locals := 306 }) (va_Pc [.ref (ad 0), .ref (ad v)] (mPre D dA (shX rr xs) ad N σ)) (va_Qv (fun (u : mMem) => bR u 6 (bestX A ru) ∧ kpT σ u) (mB D dA (shX rr xs) ad N) (mAd ad N)) 0 0 (mAd ad N) := by
  refine Met.ofW (cc := cX0_findBest) (maxL := 2) (ret := none) (by decide) rfl ?_
  intro pp ee ss mm args below meth cd s₁ B hml hv
  obtain ⟨rfl, hP, hE⟩ := hv
  have hx := B.exec
  have hb := B.bytes
  have hr := B.returns
  have hts := atoms_spec (ws := ws_ yX0_findBest cX0_findBest 2 none) B.pre
  have hts : ∀ w ∈ lw_all, w.before _ ss = true := fun w h => hts w (List.mem_cons_of_mem _ h)
  have hown : ss.vm.findClass RX0 = some mm.cls := findClass_of_methodNamed B.named
  have hlocks := B.notSynchronized
  have hD := hA.2.self
  have hS : va_S (mAd ad N) ss.heap ss.heap [] := va_S.rf
  have hNN := hA.1
  obtain ⟨hv1, hv2, hv3⟩ := id hv
  have hl := lv_entry ([.ref (ad 0), .ref (ad v)]) (n := 2) (Nat.le_of_ble_eq_true rfl)
  rw [lg_entry_eq]
  generalize (lg_sl ([.ref (ad 0), .ref (ad v)]) ++ List.replicate (2 - (lg_sl ([.ref (ad 0), .ref (ad v)])).length) Slot.unset).toArray = ls at hl ⊢
  have hl : lv_has ls 2 [(0, .ref (ad 0)), (1, .ref (ad v))] := hl
  refine lv_aload_n hx hb dX0_findBest_0 rfl (lv_at hl 0 rfl) ?_
  refine lv_iconst (v := (-1)) hx hb dX0_findBest_1 (by decide) ?_
  refine mg_put (v := (-1)) (ty := .int) hx hb hts in_X0 tyX0 tyX0_ok nmX0 hown hE hD hP hS 0 (xl_n hA (by decide)) rfl rfl 13 rfl (by decide) (hts _ q277) (fun _ h9 => h9) rfl (by decide +kernel) rfl rfl dX0_findBest_2 (fun H locs hP hS => ?_)
  refine lv_aload_n hx hb dX0_findBest_5 rfl (lv_at hl 0 rfl) ?_
  refine lv_iconst (v := 0) hx hb dX0_findBest_6 (by decide) ?_
  refine mg_put (v := 0) (ty := .int) hx hb hts in_X0 tyX0 tyX0_ok nmX0 hown hE hD hP hS 0 (xl_n hA (by decide)) rfl rfl 14 rfl (by decide) (hts _ q278) (fun _ h9 => h9) rfl (by decide +kernel) rfl rfl dX0_findBest_7 (fun H locs hP hS => ?_)
  refine lv_aload_n hx hb dX0_findBest_10 rfl (lv_at hl 0 rfl) ?_
  refine lv_aload_n hx hb dX0_findBest_11 rfl (lv_at hl 1 rfl) ?_
  refine lv_iconst (v := 1) hx hb dX0_findBest_12 (by decide) ?_
  refine lv_aload_n hx hb dX0_findBest_13 rfl (lv_at hl 1 rfl) ?_
  refine mg_getN hx hb hts in_X5 hown hE hP v (xl_o hA hv) (shX_o hv) rfl 6 rfl (by decide) q127 (fun _ h9 => h9) dX0_findBest_14 ?_
  refine lv_rwi ((mup_ne1 (by omega)).trans (mup_ne1 (by omega))) ?_
  refine lv_ishl hx hb dX0_findBest_17 ?_
  refine lv_iconst (v := 1) hx hb dX0_findBest_18 (by decide) ?_
  refine lv_isub hx hb dX0_findBest_19 ?_
  refine lv_iconst (v := 0) hx hb dX0_findBest_20 (by decide) ?_
  refine va_callv (va_runV (As := [.ref (ad v), .int ((1 <<< (σ v 6 &&& 31)) - 1), .int 0]) (rest := []) ⟨hx, hb, hml, hown, hts⟩ (mt_X0_tryOrders_6 l D dA rr xs ad N hA (mup (mup σ 0 13 (-1)) 0 14 0) v hv hv75 A (hA0.keep (fun b => (mup_ne1 (by omega)).trans (mup_ne1 (by omega))) (fun b => (mup_ne1 (by omega)).trans (mup_ne1 (by omega))) (fun b => (mup_ne1 (by omega)).trans (mup_ne1 (by omega)))) 6 hn (by decide) hv78 ru ((mup_ne1 (by decide)).trans ((mup_ne1 (by decide)).trans hru)) hru3 ((1 <<< (σ v 6 &&& 31)) - 1) 63 (by rw [hA0.n, hn]; decide) (by decide) (by decide) 0 0 rfl [] rfl rfl (fun j hj => absurd hj (Nat.not_lt_zero _)) (fun o ho => good_ord hru3 (by decide) ho) (-1, 0, fun _ => 0) ⟨(mup_ne2 (by decide)).trans (mup_self _ _ _ _), mup_self _ _ _ _, fun q => absurd q (by decide)⟩) (cwV 3 hts (lw_V q553 q555 qs17 q45 q556) rfl rfl rfl (by decide +kernel) ⟨Nat.le_of_ble_eq_true rfl, Nat.le_of_ble_eq_true rfl⟩) ⟨mPre.blind, m_recv hE hP 0 (xl_n hA (by decide)) rfl rfl, mPre.at hE hP⟩ rfl rfl hl.1 rfl (lv_room (Nat.le_of_ble_eq_true rfl)) dX0_findBest_21 ⟨Nat.le_of_ble_eq_true rfl, Nat.le_of_ble_eq_true rfl⟩) hS (fun q _ h => h) (fun q h => h) (fun ur_1 tr_1 H locs ht h0 hr_1 hB h1 h2 hS => ?_)
  obtain ⟨hbr, -, hkr⟩ := hr_1
  have hP := mB.get ht hB
  exact W.vret hx hb hr (fun t ht hW => ⟨⟨_, rfl, ⟨by unfold bestX; rw [hn]; exact hbr, kpT_tr (fun a b q1 q2 => by rw [mup_at, if_neg (by omega), mup_at, if_neg (by omega)]) hkr⟩, mB.of ht hP⟩, hS.F ht⟩) hS.2.2 dX0_findBest_24
theorem mt_X0_findBest (l : Launch) (D : va_G) (dA : Nat → ClassId) (rr : Nat → Option Nat) (xs : Nat → mSh) (ad : Nat → Nat) (N : Nat) (hA : xA ad N) (σ : mMem) (v : Nat) (hv : xw v) (hv75 : v ≠ 75) (hv78 : v ≠ 78) (A : AW) (hA0 : aR σ v A) (n : Nat) (hn : A.2.2.2.length = n) (hn6 : n ≤ 6) (ru : Nat) (hru : σ 10 0 = nI ru) (hru3 : ru < 3) : Met l yX0_findBest (ws_ yX0_findBest cX0_findBest 2 none) ({ frames := 11, cells := 0, slots := 0, locals := 306 }) (va_Pc [.ref (ad 0), .ref (ad v)] (mPre D dA (shX rr xs) ad N σ)) (va_Qv (fun (u : mMem) => bR u n (bestX A ru) ∧ kpT σ u) (mB D dA (shX rr xs) ad N) (mAd ad N)) 0 0 (mAd ad N) := by
  rcases (show n = 0 ∨ n = 1 ∨ n = 2 ∨ n = 3 ∨ n = 4 ∨ n = 5 ∨ n = 6 by omega) with rfl | rfl | rfl | rfl | rfl | rfl | rfl
  · exact mt_X0_findBest_0 l D dA rr xs ad N hA σ v hv hv75 hv78 A hA0 hn ru hru hru3
  · exact mt_X0_findBest_1 l D dA rr xs ad N hA σ v hv hv75 hv78 A hA0 hn ru hru hru3
  · exact mt_X0_findBest_2 l D dA rr xs ad N hA σ v hv hv75 hv78 A hA0 hn ru hru hru3
  · exact mt_X0_findBest_3 l D dA rr xs ad N hA σ v hv hv75 hv78 A hA0 hn ru hru hru3
  · exact mt_X0_findBest_4 l D dA rr xs ad N hA σ v hv hv75 hv78 A hA0 hn ru hru hru3
  · exact mt_X0_findBest_5 l D dA rr xs ad N hA σ v hv hv75 hv78 A hA0 hn ru hru hru3
  · exact mt_X0_findBest_6 l D dA rr xs ad N hA σ v hv hv75 hv78 A hA0 hn ru hru hru3
set_option maxHeartbeats 4000000 in
set_option maxRecDepth 100000 in
theorem mt_X0_free (l : Launch) (D : va_G) (dA : Nat → ClassId) (rr : Nat → Option Nat) (xs : Nat → mSh) (ad : Nat → Nat) (N : Nat) (hA : xA ad N) (σ : mMem) (p a : Int32) (np : Nat) (nc : Nat → Nat) (ld : Nat → Nat → Nat) (hF : xF σ np nc ld) (ru : Nat) (hru : σ 10 0 = nI ru) (hru3 : ru < 3) (PA : Nat → AW) (hPA : ∀ p, p < np → aR σ (30 + 3 * p) (PA p) ∧ (PA p).2.2.2.length = nc p) : Met l yX0_free (ws_ yX0_free cX0_free 4 (some .int)) ({ frames := 12, cells := 0, slots := 0, locals := 327 }) (va_Pc [.ref (ad 0), .int p, .int a] (mPre D dA (shX rr xs) ad N σ)) (va_Qi (fun (r : Int32) (u : mMem) => (if ik p np then (if ik a 8 then (if nc (tn p) ≤ 6 then (if 0 ≤ (bestX (PA (tn p)) ru).1 then (if tn a = 0 then (r = (bestX (PA (tn p)) ru).1 ∧ kpT σ u) else (if tn a = 1 then (r = (bestX (PA (tn p)) ru).2.1 ∧ kpT σ u) else (if tn a - 2 < nc (tn p) then (r = nI ((bestX (PA (tn p)) ru).2.2 (tn a - 2)) ∧ kpT σ u) else (r = -4 ∧ kpT σ u)))) else (r = -4 ∧ kpT σ u)) else (r = -3 ∧ kpT σ u)) else (r = -1 ∧ kpT σ u)) else (r = -1 ∧ kpT σ u))) (mB D dA (shX rr xs) ad N) (mAd ad N)) 0 0 (mAd ad N) := by
  refine Met.ofW (cc := cX0_free) (maxL := 4) (ret := (some .int)) (by decide) rfl ?_
  intro pp ee ss mm args below meth cd s₁ B hml hv
  obtain ⟨rfl, hP, hE⟩ := hv
  have hx := B.exec
  have hb := B.bytes
  have hr := B.returns
  have hts := atoms_spec (ws := ws_ yX0_free cX0_free 4 (some .int)) B.pre
  have hts : ∀ w ∈ lw_all, w.before _ ss = true := fun w h => hts w (List.mem_cons_of_mem _ h)
  have hown : ss.vm.findClass RX0 = some mm.cls := findClass_of_methodNamed B.named
  have hlocks := B.notSynchronized
  have hD := hA.2.self
  have hS : va_S (mAd ad N) ss.heap ss.heap [] := va_S.rf
  have hNN := hA.1
  have hn5 := hF.n5
  have hl := lv_entry ([.ref (ad 0), .int p, .int a]) (n := 4) (Nat.le_of_ble_eq_true rfl)
  rw [lg_entry_eq]
  generalize (lg_sl ([.ref (ad 0), .int p, .int a]) ++ List.replicate (4 - (lg_sl ([.ref (ad 0), .int p, .int a])).length) Slot.unset).toArray = ls at hl ⊢
  have hl : lv_has ls 4 [(0, .ref (ad 0)), (1, .int p), (2, .int a)] := hl
  refine lv_aload_n hx hb dX0_free_0 rfl (lv_at hl 0 rfl) ?_
  refine lv_iload_n hx hb dX0_free_1 rfl (lv_at hl 1 rfl) ?_
  refine vp_callSi (W.runV (As := [.int p]) (rest := []) ⟨hx, hb, hml, hown, hts⟩ (mt_X0_isPerson l D dA rr xs ad N hA σ p np hF.n hF.n5) (cwV 1 hts (lw_V q355 q357 qs2 q45 q358) rfl rfl rfl (by decide +kernel) ⟨Nat.le_of_ble_eq_true rfl, Nat.le_of_ble_eq_true rfl⟩) ⟨mPre.blind, m_recv hE hP 0 (xl_n hA (by decide)) rfl rfl, mPre.at hE hP⟩ rfl rfl hl.1 rfl (lv_room (Nat.le_of_ble_eq_true rfl)) dX0_free_2 ⟨Nat.le_of_ble_eq_true rfl, Nat.le_of_ble_eq_true rfl⟩) (fun r_1 hr_1 => ?_)
  subst hr_1
  refine lv_if_eq (tgt := 18) hx hb dX0_free_5 (by decide) (fun c_2 => ?_) (fun c_2 => ?_)
  · have c_2 : ¬ (ik p np) := bi_f c_2
    refine lv_iconst (v := (-1)) hx hb dX0_free_18 (by decide) ?_
    exact W.iret (v := (-1)) hx hb hr (fun t ht hW => ⟨⟨_, _, rfl, by dsimp only; rw [if_neg c_2]; exact ⟨rfl, fun a b q1 q2 => rfl⟩, mB.of ht hP⟩, hS.F ht⟩) hS.2.2 dX0_free_19
  · have c_2 : ik p np := bi_t c_2
    have c_2_lt := ik_lt c_2
    have c_2_m := hF.m c_2_lt
    have c_2_8 := hF.m8 c_2_lt
    refine lv_iload_n hx hb dX0_free_8 rfl (lv_at hl 2 rfl) ?_
    refine lv_iconst (v := 0) hx hb dX0_free_9 (by decide) ?_
    refine lv_bipush (v := 7) hx hb dX0_free_10 (by decide) ?_
    refine vp_callSi (W.runS (As := [.int a, .int 0, .int 7]) (rest := []) ⟨hx, hb, hml, hown, hts⟩ (mt_X0_isIn l a 0 7) (va_cwS 3 hts (lw_S q344 q345 q45 q346) rfl rfl rfl (by decide +kernel) ⟨Nat.le_of_ble_eq_true rfl, Nat.le_of_ble_eq_true rfl⟩) ⟨fun _ _ _ _ h => h, fun _ _ _ => ⟨rfl, trivial⟩⟩ rfl rfl hl.1 rfl (lv_room (Nat.le_of_ble_eq_true rfl)) dX0_free_12 ⟨Nat.le_of_ble_eq_true rfl, Nat.le_of_ble_eq_true rfl⟩) (fun r_3 hr_3 => ?_)
    subst hr_3
    refine lv_rwi (bi_c (ik_of (n := 8) rfl rfl)) ?_
    refine lv_if_ne (tgt := 20) hx hb dX0_free_15 (by decide) (fun c_4 => ?_) (fun c_4 => ?_)
    · have c_4 : ik a 8 := bi_t c_4
      have c_4_lt := ik_lt c_4
      refine lv_aload_n hx hb dX0_free_20 rfl (lv_at hl 0 rfl) ?_
      refine mg_ref hx hb hts in_X0 hown hE hP 0 (xl_n hA (by decide)) rfl rfl 1 rfl (by decide) (hts _ q265) (fun _ h9 => h9) dX0_free_21 ?_
      refine mg_refN hx hb hts in_X4 hown hE hP 1 (xl_n hA (by decide)) rfl rfl 0 rfl (by decide) q145 (fun _ h9 => h9) dX0_free_24 ?_
      refine lv_iload_n hx hb dX0_free_27 rfl (lv_at hl 1 rfl) ?_
      refine mg_ald hx hb hE hP 4 (xl_n hA (by decide)) rfl rfl (tn p) (by omega) (ik_eq c_2) (by decide) rfl dX0_free_28 ?_
      refine lv_astore_n (lv' := [(3, .ref (ad (30 + 3 * (tn p)))), (0, .ref (ad 0)), (1, .int p), (2, .int a)]) hx hb dX0_free_29 rfl hl (by decide) rfl (fun ls hl => ?_)
      refine lv_aload_n hx hb dX0_free_30 rfl (lv_at hl 0 rfl) ?_
      refine mg_getN hx hb hts in_X5 hown hE hP (30 + 3 * (tn p)) (xl_o hA (xw_p0 (p := tn p) (by omega))) (shX_o (xw_p0 (p := tn p) (by omega))) rfl 6 rfl (by decide) q127 (fun _ h9 => h9) dX0_free_31 ?_
      refine lv_bipush (v := 6) hx hb dX0_free_34 (by decide) ?_
      refine lv_icmp_le (tgt := 42) hx hb dX0_free_36 (by decide) (fun c_5 => ?_) (fun c_5 => ?_)
      · have nc_5 : nc (tn p) ≤ 6 := mi_le c_2_m rfl (by omega) (by omega) c_5
        have hPp := hPA (tn p) c_2_lt
        have hPm := c_2_m
        refine lv_aload_n hx hb dX0_free_42 rfl (lv_at hl 1 rfl) ?_
        refine lv_aload_n hx hb dX0_free_43 rfl (lv_at hl 0 rfl) ?_
        refine va_callv (va_runV (As := [.ref (ad (30 + 3 * (tn p)))]) (rest := []) ⟨hx, hb, hml, hown, hts⟩ (mt_X0_findBest l D dA rr xs ad N hA σ (30 + 3 * (tn p)) (xw_p0 (p := tn p) (by omega)) (by omega) (by omega) (PA (tn p)) hPp.1 (nc (tn p)) hPp.2 (by omega) ru hru hru3) (cwV 1 hts (lw_V q549 q551 qs16 q45 q552) rfl rfl rfl (by decide +kernel) ⟨Nat.le_of_ble_eq_true rfl, Nat.le_of_ble_eq_true rfl⟩) ⟨mPre.blind, m_recv hE hP 0 (xl_n hA (by decide)) rfl rfl, mPre.at hE hP⟩ rfl rfl hl.1 rfl (lv_room (Nat.le_of_ble_eq_true rfl)) dX0_free_44 ⟨Nat.le_of_ble_eq_true rfl, Nat.le_of_ble_eq_true rfl⟩) hS (fun q _ h => h) (fun q h => h) (fun ur_6 tr_6 H locs ht h0 hr_6 hB h1 h2 hS => ?_)
        obtain ⟨hbr, hkr⟩ := hr_6
        have hP := mB.get ht hB
        refine lv_aload_n hx hb dX0_free_47 rfl (lv_at hl 1 rfl) ?_
        refine mg_get hx hb hts in_X0 hown hE hP 0 (xl_n hA (by decide)) rfl rfl 13 rfl (by decide) (hts _ q277) (fun _ h9 => h9) dX0_free_48 ?_
        refine lv_rwi (hbr.1) ?_
        refine lv_if_ge (tgt := 57) hx hb dX0_free_51 (by decide) (fun c_7 => ?_) (fun c_7 => ?_)
        · skip
          have hpos := c_7
          refine lv_iload_n hx hb dX0_free_57 rfl (lv_at hl 3 rfl) ?_
          refine lv_if_ne (tgt := 68) hx hb dX0_free_58 (by decide) (fun c_8 => ?_) (fun c_8 => ?_)
          · have nc_8 : tn a ≠ 0 := mi_ne (ik_eq c_4) rfl (by omega) (by omega) c_8
            refine lv_iload_n hx hb dX0_free_68 rfl (lv_at hl 3 rfl) ?_
            refine lv_iconst (v := 1) hx hb dX0_free_69 (by decide) ?_
            refine lv_icmp_ne (tgt := 80) hx hb dX0_free_70 (by decide) (fun c_9 => ?_) (fun c_9 => ?_)
            · have nc_9 : tn a ≠ 1 := mi_ne (ik_eq c_4) rfl (by omega) (by omega) c_9
              refine lv_iload_n hx hb dX0_free_80 rfl (lv_at hl 3 rfl) ?_
              refine lv_iconst (v := 2) hx hb dX0_free_81 (by decide) ?_
              refine lv_isub hx hb dX0_free_82 ?_
              refine lv_aload_n hx hb dX0_free_83 rfl (lv_at hl 0 rfl) ?_
              refine mg_getN hx hb hts in_X5 hown hE hP (30 + 3 * (tn p)) (xl_o hA (xw_p0 (p := tn p) (by omega))) (shX_o (xw_p0 (p := tn p) (by omega))) rfl 6 rfl (by decide) q127 (fun _ h9 => h9) dX0_free_84 ?_
              refine lv_icmp_ge (tgt := 101) hx hb dX0_free_87 (by decide) (fun c_10 => ?_) (fun c_10 => ?_)
              · have nc_10 : nc (tn p) ≤ (tn a) - 2 := mi_le ((hkr _ _ (by omega) (by omega)).trans hPm) (mi_sub (a := tn a) (b := 2) (ik_eq c_4) rfl (by omega)) (by omega) (by omega) c_10
                refine lv_bipush (v := (-4)) hx hb dX0_free_101 (by decide) ?_
                exact W.iret (v := (-4)) hx hb hr (fun t ht hW => ⟨⟨_, _, rfl, by dsimp only; rw [if_pos c_2, if_pos c_4, if_pos (by omega), if_pos c_7, if_neg nc_8, if_neg nc_9, if_neg (by omega)]; exact ⟨rfl, hkr⟩, mB.of ht hP⟩, hS.F ht⟩) hS.2.2 dX0_free_103
              · have nc_10 : (tn a) - 2 < nc (tn p) := mi_nle ((hkr _ _ (by omega) (by omega)).trans hPm) (mi_sub (a := tn a) (b := 2) (ik_eq c_4) rfl (by omega)) (by omega) (by omega) c_10
                refine lv_aload_n hx hb dX0_free_90 rfl (lv_at hl 1 rfl) ?_
                refine mg_ref hx hb hts in_X0 hown hE hP 0 (xl_n hA (by decide)) rfl rfl 12 rfl (by decide) (hts _ q276) (fun _ h9 => h9) dX0_free_91 ?_
                refine lv_iload_n hx hb dX0_free_94 rfl (lv_at hl 3 rfl) ?_
                refine lv_iconst (v := 2) hx hb dX0_free_95 (by decide) ?_
                refine lv_isub hx hb dX0_free_96 ?_
                refine mg_ild hx hb hE hP 21 (xl_n hA (by decide)) rfl ((tn a) - 2) (by omega) (mi_sub (a := tn a) (b := 2) (ik_eq c_4) rfl (by omega)) (by decide) dX0_free_97 ?_
                refine lv_rwi (hbr.2.2 hpos _ (by omega)) ?_
                refine lv_goto (tgt := 103) hx hb dX0_free_98 (by decide) ?_
                exact W.iret (v := (nI ((bestX (PA (tn p)) ru).2.2 (tn a - 2)))) hx hb hr (fun t ht hW => ⟨⟨_, _, rfl, by dsimp only; rw [if_pos c_2, if_pos c_4, if_pos (by omega), if_pos c_7, if_neg nc_8, if_neg nc_9, if_pos (by omega)]; exact ⟨rfl, hkr⟩, mB.of ht hP⟩, hS.F ht⟩) hS.2.2 dX0_free_103
            · have nc_9 : tn a = 1 := mi_eq (ik_eq c_4) rfl (by omega) (by omega) c_9
              refine lv_aload_n hx hb dX0_free_73 rfl (lv_at hl 1 rfl) ?_
              refine mg_get hx hb hts in_X0 hown hE hP 0 (xl_n hA (by decide)) rfl rfl 14 rfl (by decide) (hts _ q278) (fun _ h9 => h9) dX0_free_74 ?_
              refine lv_rwi (hbr.2.1) ?_
              refine lv_goto (tgt := 103) hx hb dX0_free_77 (by decide) ?_
              exact W.iret (v := (bestX (PA (tn p)) ru).2.1) hx hb hr (fun t ht hW => ⟨⟨_, _, rfl, by dsimp only; rw [if_pos c_2, if_pos c_4, if_pos (by omega), if_pos c_7, if_neg nc_8, if_pos nc_9]; exact ⟨rfl, hkr⟩, mB.of ht hP⟩, hS.F ht⟩) hS.2.2 dX0_free_103
          · have nc_8 : tn a = 0 := mi_eq (ik_eq c_4) rfl (by omega) (by omega) c_8
            refine lv_aload_n hx hb dX0_free_61 rfl (lv_at hl 1 rfl) ?_
            refine mg_get hx hb hts in_X0 hown hE hP 0 (xl_n hA (by decide)) rfl rfl 13 rfl (by decide) (hts _ q277) (fun _ h9 => h9) dX0_free_62 ?_
            refine lv_rwi (hbr.1) ?_
            refine lv_goto (tgt := 103) hx hb dX0_free_65 (by decide) ?_
            exact W.iret (v := (bestX (PA (tn p)) ru).1) hx hb hr (fun t ht hW => ⟨⟨_, _, rfl, by dsimp only; rw [if_pos c_2, if_pos c_4, if_pos (by omega), if_pos c_7, if_pos nc_8]; exact ⟨rfl, hkr⟩, mB.of ht hP⟩, hS.F ht⟩) hS.2.2 dX0_free_103
        · skip
          refine lv_bipush (v := (-4)) hx hb dX0_free_54 (by decide) ?_
          exact W.iret (v := (-4)) hx hb hr (fun t ht hW => ⟨⟨_, _, rfl, by dsimp only; rw [if_pos c_2, if_pos c_4, if_pos (by omega), if_neg c_7]; exact ⟨rfl, hkr⟩, mB.of ht hP⟩, hS.F ht⟩) hS.2.2 dX0_free_56
      · have nc_5 : 6 < nc (tn p) := mi_nle c_2_m rfl (by omega) (by omega) c_5
        refine lv_bipush (v := (-3)) hx hb dX0_free_39 (by decide) ?_
        exact W.iret (v := (-3)) hx hb hr (fun t ht hW => ⟨⟨_, _, rfl, by dsimp only; rw [if_pos c_2, if_pos c_4, if_neg (by omega)]; exact ⟨rfl, fun a b q1 q2 => rfl⟩, mB.of ht hP⟩, hS.F ht⟩) hS.2.2 dX0_free_41
    · have c_4 : ¬ (ik a 8) := bi_f c_4
      refine lv_iconst (v := (-1)) hx hb dX0_free_18 (by decide) ?_
      exact W.iret (v := (-1)) hx hb hr (fun t ht hW => ⟨⟨_, _, rfl, by dsimp only; rw [if_pos c_2, if_neg c_4]; exact ⟨rfl, fun a b q1 q2 => rfl⟩, mB.of ht hP⟩, hS.F ht⟩) hS.2.2 dX0_free_19
set_option maxHeartbeats 4000000 in
set_option maxRecDepth 100000 in
theorem mt_X0_saves (l : Launch) (D : va_G) (dA : Nat → ClassId) (rr : Nat → Option Nat) (xs : Nat → mSh) (ad : Nat → Nat) (N : Nat) (hA : xA ad N) (σ : mMem) (p c : Int32) (np : Nat) (nc : Nat → Nat) (ld : Nat → Nat → Nat) (hF : xF σ np nc ld) (ru : Nat) (hru : σ 10 0 = nI ru) (hru3 : ru < 3) (PA : Nat → AW) (hPA : ∀ p, p < np → aR σ (30 + 3 * p) (PA p) ∧ (PA p).2.2.2.length = nc p) : Met l yX0_saves (ws_ yX0_saves cX0_saves 5 (some .int)) ({ frames := 12, cells := 0, slots := 0, locals := 327 }) (va_Pc [.ref (ad 0), .int p, .int c] (mPre D dA (shX rr xs) ad N σ)) (va_Qi (fun (r : Int32) (u : mMem) => (if ik p np ∧ ik c (nc (tn p)) then (if nc (tn p) ≤ 6 then (if btw c (nc (tn p)) then (r = nev (bestX (PA (tn p)) ru).1 - nev (bestX (awo (PA (tn p)) (tn c)) ru).1 ∧ kpS σ u) else (r = -2 ∧ kpS σ u)) else (r = -3 ∧ kpS σ u)) else (r = -1 ∧ kpS σ u))) (mB D dA (shX rr xs) ad N) (mAd ad N)) 0 0 (mAd ad N) := by
  refine Met.ofW (cc := cX0_saves) (maxL := 5) (ret := (some .int)) (by decide) rfl ?_
  intro pp ee ss mm args below meth cd s₁ B hml hv
  obtain ⟨rfl, hP, hE⟩ := hv
  have hx := B.exec
  have hb := B.bytes
  have hr := B.returns
  have hts := atoms_spec (ws := ws_ yX0_saves cX0_saves 5 (some .int)) B.pre
  have hts : ∀ w ∈ lw_all, w.before _ ss = true := fun w h => hts w (List.mem_cons_of_mem _ h)
  have hown : ss.vm.findClass RX0 = some mm.cls := findClass_of_methodNamed B.named
  have hlocks := B.notSynchronized
  have hD := hA.2.self
  have hS : va_S (mAd ad N) ss.heap ss.heap [] := va_S.rf
  have hNN := hA.1
  have hn5 := hF.n5
  have hl := lv_entry ([.ref (ad 0), .int p, .int c]) (n := 5) (Nat.le_of_ble_eq_true rfl)
  rw [lg_entry_eq]
  generalize (lg_sl ([.ref (ad 0), .int p, .int c]) ++ List.replicate (5 - (lg_sl ([.ref (ad 0), .int p, .int c])).length) Slot.unset).toArray = ls at hl ⊢
  have hl : lv_has ls 5 [(0, .ref (ad 0)), (1, .int p), (2, .int c)] := hl
  refine lv_aload_n hx hb dX0_saves_0 rfl (lv_at hl 0 rfl) ?_
  refine lv_iload_n hx hb dX0_saves_1 rfl (lv_at hl 1 rfl) ?_
  refine lv_iload_n hx hb dX0_saves_2 rfl (lv_at hl 2 rfl) ?_
  refine vp_callSi (W.runV (As := [.int p, .int c]) (rest := []) ⟨hx, hb, hml, hown, hts⟩ (mt_X0_isCoat l D dA rr xs ad N hA σ p c np nc ld hF) (cwV 2 hts (lw_V q382 q384 qs3 q45 q385) rfl rfl rfl (by decide +kernel) ⟨Nat.le_of_ble_eq_true rfl, Nat.le_of_ble_eq_true rfl⟩) ⟨mPre.blind, m_recv hE hP 0 (xl_n hA (by decide)) rfl rfl, mPre.at hE hP⟩ rfl rfl hl.1 rfl (lv_room (Nat.le_of_ble_eq_true rfl)) dX0_saves_3 ⟨Nat.le_of_ble_eq_true rfl, Nat.le_of_ble_eq_true rfl⟩) (fun r_1 hr_1 => ?_)
  subst hr_1
  refine lv_if_ne (tgt := 11) hx hb dX0_saves_6 (by decide) (fun c_2 => ?_) (fun c_2 => ?_)
  · have c_2 : ik p np ∧ ik c (nc (tn p)) := bi_t c_2
    obtain ⟨c_2_0, c_2_1⟩ := id c_2
    have c_2_0_lt := ik_lt c_2_0
    have c_2_0_m := hF.m c_2_0_lt
    have c_2_0_8 := hF.m8 c_2_0_lt
    have c_2_1_lt := ik_lt c_2_1
    refine lv_aload_n hx hb dX0_saves_11 rfl (lv_at hl 0 rfl) ?_
    refine mg_ref hx hb hts in_X0 hown hE hP 0 (xl_n hA (by decide)) rfl rfl 1 rfl (by decide) (hts _ q265) (fun _ h9 => h9) dX0_saves_12 ?_
    refine mg_refN hx hb hts in_X4 hown hE hP 1 (xl_n hA (by decide)) rfl rfl 0 rfl (by decide) q145 (fun _ h9 => h9) dX0_saves_15 ?_
    refine lv_iload_n hx hb dX0_saves_18 rfl (lv_at hl 1 rfl) ?_
    refine mg_ald hx hb hE hP 4 (xl_n hA (by decide)) rfl rfl (tn p) (by omega) (ik_eq c_2_0) (by decide) rfl dX0_saves_19 ?_
    refine lv_astore_n (lv' := [(3, .ref (ad (30 + 3 * (tn p)))), (0, .ref (ad 0)), (1, .int p), (2, .int c)]) hx hb dX0_saves_20 rfl hl (by decide) rfl (fun ls hl => ?_)
    refine lv_aload_n hx hb dX0_saves_21 rfl (lv_at hl 0 rfl) ?_
    refine mg_getN hx hb hts in_X5 hown hE hP (30 + 3 * (tn p)) (xl_o hA (xw_p0 (p := tn p) (by omega))) (shX_o (xw_p0 (p := tn p) (by omega))) rfl 6 rfl (by decide) q127 (fun _ h9 => h9) dX0_saves_22 ?_
    refine lv_bipush (v := 6) hx hb dX0_saves_25 (by decide) ?_
    refine lv_icmp_le (tgt := 33) hx hb dX0_saves_27 (by decide) (fun c_3 => ?_) (fun c_3 => ?_)
    · have nc_3 : nc (tn p) ≤ 6 := mi_le c_2_0_m rfl (by omega) (by omega) c_3
      refine lv_aload_n hx hb dX0_saves_33 rfl (lv_at hl 1 rfl) ?_
      refine lv_iload_n hx hb dX0_saves_34 rfl (lv_at hl 2 rfl) ?_
      refine lv_iload_n hx hb dX0_saves_35 rfl (lv_at hl 3 rfl) ?_
      refine vp_callSi (W.runV (As := [.int p, .int c]) (rest := []) ⟨hx, hb, hml, hown, hts⟩ (mt_X0_isBetween l D dA rr xs ad N hA σ p c np nc ld hF c_2_0) (cwV 2 hts (lw_V q512 q514 qs11 q45 q515) rfl rfl rfl (by decide +kernel) ⟨Nat.le_of_ble_eq_true rfl, Nat.le_of_ble_eq_true rfl⟩) ⟨mPre.blind, m_recv hE hP 0 (xl_n hA (by decide)) rfl rfl, mPre.at hE hP⟩ rfl rfl hl.1 rfl (lv_room (Nat.le_of_ble_eq_true rfl)) dX0_saves_36 ⟨Nat.le_of_ble_eq_true rfl, Nat.le_of_ble_eq_true rfl⟩) (fun r_4 hr_4 => ?_)
      subst hr_4
      refine lv_if_ne (tgt := 45) hx hb dX0_saves_39 (by decide) (fun c_5 => ?_) (fun c_5 => ?_)
      · have c_5 : btw c (nc (tn p)) := bi_t c_5
        have hPp := hPA (tn p) c_2_0_lt
        have hPm := c_2_0_m
        refine lv_aload_n hx hb dX0_saves_45 rfl (lv_at hl 1 rfl) ?_
        refine lv_aload_n hx hb dX0_saves_46 rfl (lv_at hl 0 rfl) ?_
        refine va_callv (va_runV (As := [.ref (ad (30 + 3 * (tn p)))]) (rest := []) ⟨hx, hb, hml, hown, hts⟩ (mt_X0_findBest l D dA rr xs ad N hA σ (30 + 3 * (tn p)) (xw_p0 (p := tn p) (by omega)) (by omega) (by omega) (PA (tn p)) hPp.1 (nc (tn p)) hPp.2 (by omega) ru hru hru3) (cwV 1 hts (lw_V q549 q551 qs16 q45 q552) rfl rfl rfl (by decide +kernel) ⟨Nat.le_of_ble_eq_true rfl, Nat.le_of_ble_eq_true rfl⟩) ⟨mPre.blind, m_recv hE hP 0 (xl_n hA (by decide)) rfl rfl, mPre.at hE hP⟩ rfl rfl hl.1 rfl (lv_room (Nat.le_of_ble_eq_true rfl)) dX0_saves_47 ⟨Nat.le_of_ble_eq_true rfl, Nat.le_of_ble_eq_true rfl⟩) hS (fun q _ h => h) (fun q h => h) (fun ur_6 tr_6 H locs ht h0 hr_6 hB h1 h2 hS => ?_)
        obtain ⟨hb1, hk1⟩ := hr_6
        have hP := mB.get ht hB
        have hA1 := tA hPp.1 hk1 (xw_p0 (p := tn p) (by omega)) (by omega) (by omega)
        refine lv_aload_n hx hb dX0_saves_50 rfl (lv_at hl 1 rfl) ?_
        refine mg_get hx hb hts in_X0 hown hE hP 0 (xl_n hA (by decide)) rfl rfl 13 rfl (by decide) (hts _ q277) (fun _ h9 => h9) dX0_saves_51 ?_
        refine lv_rwi (hb1.1) ?_
        refine lv_if_ge (tgt := 63) hx hb dX0_saves_54 (by decide) (fun c_7 => ?_) (fun c_7 => ?_)
        · skip
          refine lv_aload_n hx hb dX0_saves_63 rfl (lv_at hl 1 rfl) ?_
          refine mg_get hx hb hts in_X0 hown hE hP 0 (xl_n hA (by decide)) rfl rfl 13 rfl (by decide) (hts _ q277) (fun _ h9 => h9) dX0_saves_64 ?_
          refine lv_rwi (hb1.1) ?_
          refine lv_istore (lv' := [(4, .int ((bestX (PA (tn p)) ru).1)), (3, .ref (ad (30 + 3 * (tn p)))), (0, .ref (ad 0)), (1, .int p), (2, .int c)]) hx hb dX0_saves_67 hl (by decide) rfl (fun ls hl => ?_)
          refine lv_aload_n hx hb dX0_saves_69 rfl (lv_at hl 2 rfl) ?_
          refine mg_ref hx hb hts in_X0 hown hE hP 0 (xl_n hA (by decide)) rfl rfl 16 rfl (by decide) (hts _ q280) (fun _ h9 => h9) dX0_saves_70 ?_
          refine lv_aload_n hx hb dX0_saves_73 rfl (lv_at hl 1 rfl) ?_
          refine va_callv (va_runV (As := [.ref (ad (30 + 3 * (tn p)))]) (rest := []) ⟨hx, hb, hml, hown, hts⟩ (mt_X5_takeFrom l D dA rr xs ad N hA ur_6 84 xw84 (30 + 3 * (tn p)) (xw_p0 (p := tn p) (by omega)) (by omega)) (cwV 1 hts (lw_V q561 q562 q563 q50 q564) rfl rfl rfl (by decide +kernel) ⟨Nat.le_of_ble_eq_true rfl, Nat.le_of_ble_eq_true rfl⟩) ⟨mPre.blind, m_recv hE hP 84 (xl_o hA xw84) (shX_o xw84) rfl, mPre.at hE hP⟩ rfl rfl hl.1 rfl (lv_room (Nat.le_of_ble_eq_true rfl)) dX0_saves_74 ⟨Nat.le_of_ble_eq_true rfl, Nat.le_of_ble_eq_true rfl⟩) hS (fun q _ h => h) (fun q h => h) (fun ur_8 tr_8 H locs ht h0 hr_8 hB h1 h2 hS => ?_)
          subst hr_8
          have hP := mB.get ht hB
          have hA2 := aR_tkf (w := 84) hA1 xw84 (xw_p0 (p := tn p) (by omega)) (by omega)
          refine lv_aload_n hx hb dX0_saves_77 rfl (lv_at hl 2 rfl) ?_
          refine mg_ref hx hb hts in_X0 hown hE hP 0 (xl_n hA (by decide)) rfl rfl 16 rfl (by decide) (hts _ q280) (fun _ h9 => h9) dX0_saves_78 ?_
          refine lv_iload_n hx hb dX0_saves_81 rfl (lv_at hl 4 rfl) ?_
          refine va_callv (va_runV (As := [.int c]) (rest := []) ⟨hx, hb, hml, hown, hts⟩ (mt_X5_remove l D dA rr xs ad N hA (tkf ur_6 84 (30 + 3 * (tn p))) 84 xw84 c (tn c) (ik_eq c_2_1) (nc (tn p)) (hA2.n.trans (congrArg nI hPp.2)) (by omega) (by omega)) (cwV 1 hts (lw_V q516 q477 q478 q50 q479) rfl rfl rfl (by decide +kernel) ⟨Nat.le_of_ble_eq_true rfl, Nat.le_of_ble_eq_true rfl⟩) ⟨mPre.blind, m_recv hE hP 84 (xl_o hA xw84) (shX_o xw84) rfl, mPre.at hE hP⟩ rfl rfl hl.1 rfl (lv_room (Nat.le_of_ble_eq_true rfl)) dX0_saves_82 ⟨Nat.le_of_ble_eq_true rfl, Nat.le_of_ble_eq_true rfl⟩) hS (fun q _ h => h) (fun q h => h) (fun ur_9 tr_9 H locs ht h0 hr_9 hB h1 h2 hS => ?_)
          subst hr_9
          have hP := mB.get ht hB
          have hP : va_P D xCl (mW dA (shX rr xs) ad N (va_up (mup (tkf ur_6 84 (30 + 3 * (tn p))) 84 6 (nI ((nc (tn p)) - 1))) 86 (va_cpy ((tkf ur_6 84 (30 + 3 * (tn p))) 86) ((tkf ur_6 84 (30 + 3 * (tn p))) 86) (4 * ((tn c) + 1)) (4 * (tn c)) (4 * ((nc (tn p)) - 1 - (tn c)))))) H := hP
          have hA3 := aR_rmv (c := tn c) hA2 (by rw [hPp.2]; omega)
          rw [hPp.2] at hA3
          have hk3 := sv_kp hk1 (v := 30 + 3 * tn p) (n := nc (tn p)) (c := tn c)
          refine lv_aload_n hx hb dX0_saves_85 rfl (lv_at hl 2 rfl) ?_
          refine lv_aload_n hx hb dX0_saves_86 rfl (lv_at hl 2 rfl) ?_
          refine mg_ref hx hb hts in_X0 hown hE hP 0 (xl_n hA (by decide)) rfl rfl 16 rfl (by decide) (hts _ q280) (fun _ h9 => h9) dX0_saves_87 ?_
          refine va_callv (va_runV (As := [.ref (ad 84)]) (rest := []) ⟨hx, hb, hml, hown, hts⟩ (mt_X0_findBest l D dA rr xs ad N hA (va_up (mup (tkf ur_6 84 (30 + 3 * (tn p))) 84 6 (nI ((nc (tn p)) - 1))) 86 (va_cpy ((tkf ur_6 84 (30 + 3 * (tn p))) 86) ((tkf ur_6 84 (30 + 3 * (tn p))) 86) (4 * ((tn c) + 1)) (4 * (tn c)) (4 * ((nc (tn p)) - 1 - (tn c))))) 84 xw84 (by decide) (by decide) (awo (PA (tn p)) (tn c)) hA3 (nc (tn p) - 1) (by rw [awo_n (by rw [hPp.2]; omega), hPp.2]) (by omega) ru (hk3.1.trans hru) hru3) (cwV 1 hts (lw_V q549 q551 qs16 q45 q552) rfl rfl rfl (by decide +kernel) ⟨Nat.le_of_ble_eq_true rfl, Nat.le_of_ble_eq_true rfl⟩) ⟨mPre.blind, m_recv hE hP 0 (xl_n hA (by decide)) rfl rfl, mPre.at hE hP⟩ rfl rfl hl.1 rfl (lv_room (Nat.le_of_ble_eq_true rfl)) dX0_saves_90 ⟨Nat.le_of_ble_eq_true rfl, Nat.le_of_ble_eq_true rfl⟩) hS (fun q _ h => h) (fun q h => h) (fun ur_10 tr_10 H locs ht h0 hr_10 hB h1 h2 hS => ?_)
          obtain ⟨hb4, hk4⟩ := hr_10
          have hP := mB.get ht hB
          refine lv_iload hx hb dX0_saves_93 (lv_at hl 0 rfl) ?_
          refine lv_aload_n hx hb dX0_saves_95 rfl (lv_at hl 2 rfl) ?_
          refine mg_get hx hb hts in_X0 hown hE hP 0 (xl_n hA (by decide)) rfl rfl 13 rfl (by decide) (hts _ q277) (fun _ h9 => h9) dX0_saves_96 ?_
          refine lv_rwi (hb4.1) ?_
          refine lv_if_ge (tgt := 108) hx hb dX0_saves_99 (by decide) (fun c_11 => ?_) (fun c_11 => ?_)
          · skip
            refine lv_aload_n hx hb dX0_saves_108 rfl (lv_at hl 2 rfl) ?_
            refine mg_get hx hb hts in_X0 hown hE hP 0 (xl_n hA (by decide)) rfl rfl 13 rfl (by decide) (hts _ q277) (fun _ h9 => h9) dX0_saves_109 ?_
            refine lv_rwi (hb4.1) ?_
            refine lv_isub hx hb dX0_saves_112 ?_
            exact W.iret (v := ((bestX (PA (tn p)) ru).1 - (bestX (awo (PA (tn p)) (tn c)) ru).1)) hx hb hr (fun t ht hW => ⟨⟨_, _, rfl, by dsimp only; rw [if_pos c_2, if_pos (by omega), if_pos c_5]; exact ⟨by unfold nev; rw [if_pos c_7, if_pos c_11], fun a b q1 q2 q3 => (hk4 a b q1 q2).trans (hk3.2 a b q1 q2 q3)⟩, mB.of ht hP⟩, hS.F ht⟩) hS.2.2 dX0_saves_113
          · skip
            refine lv_sipush (v := 361) hx hb dX0_saves_102 (by decide) ?_
            refine lv_goto (tgt := 112) hx hb dX0_saves_105 (by decide) ?_
            refine lv_isub hx hb dX0_saves_112 ?_
            exact W.iret (v := ((bestX (PA (tn p)) ru).1 - 361)) hx hb hr (fun t ht hW => ⟨⟨_, _, rfl, by dsimp only; rw [if_pos c_2, if_pos (by omega), if_pos c_5]; exact ⟨by unfold nev; rw [if_pos c_7, if_neg c_11], fun a b q1 q2 q3 => (hk4 a b q1 q2).trans (hk3.2 a b q1 q2 q3)⟩, mB.of ht hP⟩, hS.F ht⟩) hS.2.2 dX0_saves_113
        · skip
          refine lv_sipush (v := 361) hx hb dX0_saves_57 (by decide) ?_
          refine lv_goto (tgt := 67) hx hb dX0_saves_60 (by decide) ?_
          refine lv_istore (lv' := [(4, .int 361), (3, .ref (ad (30 + 3 * (tn p)))), (0, .ref (ad 0)), (1, .int p), (2, .int c)]) hx hb dX0_saves_67 hl (by decide) rfl (fun ls hl => ?_)
          refine lv_aload_n hx hb dX0_saves_69 rfl (lv_at hl 2 rfl) ?_
          refine mg_ref hx hb hts in_X0 hown hE hP 0 (xl_n hA (by decide)) rfl rfl 16 rfl (by decide) (hts _ q280) (fun _ h9 => h9) dX0_saves_70 ?_
          refine lv_aload_n hx hb dX0_saves_73 rfl (lv_at hl 1 rfl) ?_
          refine va_callv (va_runV (As := [.ref (ad (30 + 3 * (tn p)))]) (rest := []) ⟨hx, hb, hml, hown, hts⟩ (mt_X5_takeFrom l D dA rr xs ad N hA ur_6 84 xw84 (30 + 3 * (tn p)) (xw_p0 (p := tn p) (by omega)) (by omega)) (cwV 1 hts (lw_V q561 q562 q563 q50 q564) rfl rfl rfl (by decide +kernel) ⟨Nat.le_of_ble_eq_true rfl, Nat.le_of_ble_eq_true rfl⟩) ⟨mPre.blind, m_recv hE hP 84 (xl_o hA xw84) (shX_o xw84) rfl, mPre.at hE hP⟩ rfl rfl hl.1 rfl (lv_room (Nat.le_of_ble_eq_true rfl)) dX0_saves_74 ⟨Nat.le_of_ble_eq_true rfl, Nat.le_of_ble_eq_true rfl⟩) hS (fun q _ h => h) (fun q h => h) (fun ur_12 tr_12 H locs ht h0 hr_12 hB h1 h2 hS => ?_)
          subst hr_12
          have hP := mB.get ht hB
          have hA2 := aR_tkf (w := 84) hA1 xw84 (xw_p0 (p := tn p) (by omega)) (by omega)
          refine lv_aload_n hx hb dX0_saves_77 rfl (lv_at hl 2 rfl) ?_
          refine mg_ref hx hb hts in_X0 hown hE hP 0 (xl_n hA (by decide)) rfl rfl 16 rfl (by decide) (hts _ q280) (fun _ h9 => h9) dX0_saves_78 ?_
          refine lv_iload_n hx hb dX0_saves_81 rfl (lv_at hl 4 rfl) ?_
          refine va_callv (va_runV (As := [.int c]) (rest := []) ⟨hx, hb, hml, hown, hts⟩ (mt_X5_remove l D dA rr xs ad N hA (tkf ur_6 84 (30 + 3 * (tn p))) 84 xw84 c (tn c) (ik_eq c_2_1) (nc (tn p)) (hA2.n.trans (congrArg nI hPp.2)) (by omega) (by omega)) (cwV 1 hts (lw_V q516 q477 q478 q50 q479) rfl rfl rfl (by decide +kernel) ⟨Nat.le_of_ble_eq_true rfl, Nat.le_of_ble_eq_true rfl⟩) ⟨mPre.blind, m_recv hE hP 84 (xl_o hA xw84) (shX_o xw84) rfl, mPre.at hE hP⟩ rfl rfl hl.1 rfl (lv_room (Nat.le_of_ble_eq_true rfl)) dX0_saves_82 ⟨Nat.le_of_ble_eq_true rfl, Nat.le_of_ble_eq_true rfl⟩) hS (fun q _ h => h) (fun q h => h) (fun ur_13 tr_13 H locs ht h0 hr_13 hB h1 h2 hS => ?_)
          subst hr_13
          have hP := mB.get ht hB
          have hP : va_P D xCl (mW dA (shX rr xs) ad N (va_up (mup (tkf ur_6 84 (30 + 3 * (tn p))) 84 6 (nI ((nc (tn p)) - 1))) 86 (va_cpy ((tkf ur_6 84 (30 + 3 * (tn p))) 86) ((tkf ur_6 84 (30 + 3 * (tn p))) 86) (4 * ((tn c) + 1)) (4 * (tn c)) (4 * ((nc (tn p)) - 1 - (tn c)))))) H := hP
          have hA3 := aR_rmv (c := tn c) hA2 (by rw [hPp.2]; omega)
          rw [hPp.2] at hA3
          have hk3 := sv_kp hk1 (v := 30 + 3 * tn p) (n := nc (tn p)) (c := tn c)
          refine lv_aload_n hx hb dX0_saves_85 rfl (lv_at hl 2 rfl) ?_
          refine lv_aload_n hx hb dX0_saves_86 rfl (lv_at hl 2 rfl) ?_
          refine mg_ref hx hb hts in_X0 hown hE hP 0 (xl_n hA (by decide)) rfl rfl 16 rfl (by decide) (hts _ q280) (fun _ h9 => h9) dX0_saves_87 ?_
          refine va_callv (va_runV (As := [.ref (ad 84)]) (rest := []) ⟨hx, hb, hml, hown, hts⟩ (mt_X0_findBest l D dA rr xs ad N hA (va_up (mup (tkf ur_6 84 (30 + 3 * (tn p))) 84 6 (nI ((nc (tn p)) - 1))) 86 (va_cpy ((tkf ur_6 84 (30 + 3 * (tn p))) 86) ((tkf ur_6 84 (30 + 3 * (tn p))) 86) (4 * ((tn c) + 1)) (4 * (tn c)) (4 * ((nc (tn p)) - 1 - (tn c))))) 84 xw84 (by decide) (by decide) (awo (PA (tn p)) (tn c)) hA3 (nc (tn p) - 1) (by rw [awo_n (by rw [hPp.2]; omega), hPp.2]) (by omega) ru (hk3.1.trans hru) hru3) (cwV 1 hts (lw_V q549 q551 qs16 q45 q552) rfl rfl rfl (by decide +kernel) ⟨Nat.le_of_ble_eq_true rfl, Nat.le_of_ble_eq_true rfl⟩) ⟨mPre.blind, m_recv hE hP 0 (xl_n hA (by decide)) rfl rfl, mPre.at hE hP⟩ rfl rfl hl.1 rfl (lv_room (Nat.le_of_ble_eq_true rfl)) dX0_saves_90 ⟨Nat.le_of_ble_eq_true rfl, Nat.le_of_ble_eq_true rfl⟩) hS (fun q _ h => h) (fun q h => h) (fun ur_14 tr_14 H locs ht h0 hr_14 hB h1 h2 hS => ?_)
          obtain ⟨hb4, hk4⟩ := hr_14
          have hP := mB.get ht hB
          refine lv_iload hx hb dX0_saves_93 (lv_at hl 0 rfl) ?_
          refine lv_aload_n hx hb dX0_saves_95 rfl (lv_at hl 2 rfl) ?_
          refine mg_get hx hb hts in_X0 hown hE hP 0 (xl_n hA (by decide)) rfl rfl 13 rfl (by decide) (hts _ q277) (fun _ h9 => h9) dX0_saves_96 ?_
          refine lv_rwi (hb4.1) ?_
          refine lv_if_ge (tgt := 108) hx hb dX0_saves_99 (by decide) (fun c_15 => ?_) (fun c_15 => ?_)
          · skip
            refine lv_aload_n hx hb dX0_saves_108 rfl (lv_at hl 2 rfl) ?_
            refine mg_get hx hb hts in_X0 hown hE hP 0 (xl_n hA (by decide)) rfl rfl 13 rfl (by decide) (hts _ q277) (fun _ h9 => h9) dX0_saves_109 ?_
            refine lv_rwi (hb4.1) ?_
            refine lv_isub hx hb dX0_saves_112 ?_
            exact W.iret (v := (361 - (bestX (awo (PA (tn p)) (tn c)) ru).1)) hx hb hr (fun t ht hW => ⟨⟨_, _, rfl, by dsimp only; rw [if_pos c_2, if_pos (by omega), if_pos c_5]; exact ⟨by unfold nev; rw [if_neg c_7, if_pos c_15], fun a b q1 q2 q3 => (hk4 a b q1 q2).trans (hk3.2 a b q1 q2 q3)⟩, mB.of ht hP⟩, hS.F ht⟩) hS.2.2 dX0_saves_113
          · skip
            refine lv_sipush (v := 361) hx hb dX0_saves_102 (by decide) ?_
            refine lv_goto (tgt := 112) hx hb dX0_saves_105 (by decide) ?_
            refine lv_isub hx hb dX0_saves_112 ?_
            exact W.iret (v := (361 - 361)) hx hb hr (fun t ht hW => ⟨⟨_, _, rfl, by dsimp only; rw [if_pos c_2, if_pos (by omega), if_pos c_5]; exact ⟨by unfold nev; rw [if_neg c_7, if_neg c_15], fun a b q1 q2 q3 => (hk4 a b q1 q2).trans (hk3.2 a b q1 q2 q3)⟩, mB.of ht hP⟩, hS.F ht⟩) hS.2.2 dX0_saves_113
      · have c_5 : ¬ (btw c (nc (tn p))) := bi_f c_5
        refine lv_bipush (v := (-2)) hx hb dX0_saves_42 (by decide) ?_
        exact W.iret (v := (-2)) hx hb hr (fun t ht hW => ⟨⟨_, _, rfl, by dsimp only; rw [if_pos c_2, if_pos (by omega), if_neg c_5]; exact ⟨rfl, fun a b q1 q2 q3 => rfl⟩, mB.of ht hP⟩, hS.F ht⟩) hS.2.2 dX0_saves_44
    · have nc_3 : 6 < nc (tn p) := mi_nle c_2_0_m rfl (by omega) (by omega) c_3
      refine lv_bipush (v := (-3)) hx hb dX0_saves_30 (by decide) ?_
      exact W.iret (v := (-3)) hx hb hr (fun t ht hW => ⟨⟨_, _, rfl, by dsimp only; rw [if_pos c_2, if_neg (by omega)]; exact ⟨rfl, fun a b q1 q2 q3 => rfl⟩, mB.of ht hP⟩, hS.F ht⟩) hS.2.2 dX0_saves_32
  · have c_2 : ¬ (ik p np ∧ ik c (nc (tn p))) := bi_f c_2
    refine lv_iconst (v := (-1)) hx hb dX0_saves_9 (by decide) ?_
    exact W.iret (v := (-1)) hx hb hr (fun t ht hW => ⟨⟨_, _, rfl, by dsimp only; rw [if_neg c_2]; exact ⟨rfl, fun a b q1 q2 q3 => rfl⟩, mB.of ht hP⟩, hS.F ht⟩) hS.2.2 dX0_saves_10
