def kpD (σ τ : mMem) : Prop := ∀ a b, a ≠ 75 → a ≠ 76 → a ≠ 77 → ¬ (a = 0 ∧ b = 15) → τ a b = σ a b
/-- the one that is tried -/
def dS (σ τ : mMem) (C : AW) (dn : Nat) (pd : Int32) (n : Nat) : Prop := aR τ 75 C ∧ C.2.2.2.length = n - dn ∧ τ 0 15 = pd ∧ kpD σ τ
theorem dS_n {σ τ : mMem} {C : AW} {dn : Nat} {pd : Int32} {n : Nat} (h : dS σ τ C dn pd n) : τ 75 6 = nI (n - dn) := h.1.n.trans (congrArg nI h.2.1)
theorem dS_v {σ τ : mMem} {C A : AW} {dn v : Nat} {pd : Int32} {n : Nat} (h : dS σ τ C dn pd n) (hA : aR σ v A) (hn : A.2.2.2.length = n) (h1 : 30 ≤ v) (h2 : v ≠ 75 ∧ v ≠ 76 ∧ v ≠ 77) : τ v 6 = nI n := (h.2.2.2 v 6 h2.1 h2.2.1 h2.2.2 (by omega)).trans (hA.n.trans (congrArg nI hn))
theorem dS_o {σ τ : mMem} {C : AW} {dn a b : Nat} {pd : Int32} {n : Nat} (h : dS σ τ C dn pd n) (ha : 0 < a ∧ a < 75) : τ a b = σ a b := h.2.2.2 a b (by omega) (by omega) (by omega) (by omega)
theorem dS_ld {σ τ : mMem} {C : AW} {dn : Nat} {pd : Int32} {n : Nat} (h : dS σ τ C dn pd n) : ∀ c, c < n - dn → τ (75 + 2) (4 * c) = nI (aLd C c) ∧ aLd C c < 5 := by
  rw [← h.2.1]; exact h.1.ld
theorem dS_amt {σ τ : mMem} {C : AW} {dn e : Nat} {pd : Int32} {n : Nat} (h : dS σ τ C dn pd n) (he : e < n - dn) : τ 77 (4 * e + 1) = (C.2.2.2.getD e (0, 0, 0, 0)).2.1 := by
  have hc : e < C.2.2.2.length := by rw [h.2.1]; exact he
  have e1 : C.2.2.2[e]? = some (C.2.2.2.getD e (0, 0, 0, 0)) := by
    rw [List.getD_eq_getElem?_getD, List.getElem?_eq_getElem hc]; rfl
  exact (h.1.2.2.2.2.2.1 e _ e1).2.1
theorem dS_start {σ : mMem} {A : AW} {v n : Nat} (h : aR σ v A) (hn : A.2.2.2.length = n) (hv : xw v) (hne : 75 ≠ v) : dS σ (mup (tkf σ 75 v) 0 15 0) A 0 0 n := by
  have h1 := aR_tkf h xw75 hv hne
  refine ⟨h1.keep (fun b => mup_ne1 (by decide)) (fun b => mup_ne1 (by decide)) (fun b => mup_ne1 (by decide)), hn, mup_self _ _ _ _, fun a b h1 h2 h3 h4 => ?_⟩
  rw [mup_at, if_neg h4, tkf_ne h1 h2 h3]
theorem dS_nop {σ τ : mMem} {C : AW} {dn : Nat} {pd : Int32} {n : Nat} (h : dS σ τ C dn pd n) : dS σ (mup τ 0 15 (τ 0 15 + 0)) C dn pd n := by
  have e : mup τ 0 15 (τ 0 15 + 0) = τ := mup_id (by rw [Int32.add_zero])
  rw [e]; exact h
theorem dS_night {σ τ : mMem} {C : AW} {dn : Nat} {pd : Int32} {n : Nat} (h : dS σ τ C dn pd n) : dS σ (ngt τ 75 (n - dn) (aLd C)) (aNight C) dn pd n := by
  obtain ⟨h1, h2, h3, h4⟩ := h
  refine ⟨by rw [← h2]; exact aR_night h1, by show (C.2.2.2.map nCoat).length = _; rw [List.length_map]; exact h2, ?_, fun a b q1 q2 q3 q4 => ?_⟩
  · rw [ngt_ne (by omega) (by omega)]; exact h3
  · rw [ngt_ne (by omega) (by omega)]; exact h4 a b q1 q2 q3 q4
theorem dS_pay {σ τ : mMem} {C : AW} {dn e : Nat} {pd : Int32} {n : Nat} (h : dS σ τ C dn pd n) (he : e < n - dn) : dS σ (mup (rmv (mup τ 75 0 (τ 75 0 - τ 77 (4 * e + 1))) 75 (n - dn) e) 0 15 (τ 0 15 + τ 77 (4 * e + 1))) (aPay C e (C.2.2.2.getD e (0, 0, 0, 0))) (dn + 1) (pd + (C.2.2.2.getD e (0, 0, 0, 0)).2.1) n := by
  have ha := dS_amt h he
  obtain ⟨h1, h2, h3, h4⟩ := h
  have hc : e < C.2.2.2.length := by rw [h2]; exact he
  have e1 : C.2.2.2[e]? = some (C.2.2.2.getD e (0, 0, 0, 0)) := by
    rw [List.getD_eq_getElem?_getD, List.getElem?_eq_getElem hc]; rfl
  have h5 := aR_pay h1 e1
  rw [h2] at h5
  refine ⟨h5.keep (fun b => mup_ne1 (by decide)) (fun b => mup_ne1 (by decide)) (fun b => mup_ne1 (by decide)), ?_, ?_, fun a b q1 q2 q3 q4 => ?_⟩
  · show (C.2.2.2.eraseIdx e).length = _
    rw [List.length_eraseIdx, if_pos hc, h2]; omega
  · rw [mup_self, h3, ha]
  · rw [mup_at, if_neg q4, rmv_ne q1 q3, mup_ne1 q1]; exact h4 a b q1 q2 q3 q4
theorem payR_go {ord : Nat → Nat} {n dn : Nat} {C : AW} {pd : Int32} (h1 : dn < n) (h2 : (C.2.2.2.getD (posO ord dn) (0, 0, 0, 0)).2.1 ≤ C.1) : payR ord n (n - dn) (C, dn, pd) = payR ord n (n - (dn + 1)) (aPay C (posO ord dn) (C.2.2.2.getD (posO ord dn) (0, 0, 0, 0)), dn + 1, pd + (C.2.2.2.getD (posO ord dn) (0, 0, 0, 0)).2.1) := by
  rw [show n - dn = (n - (dn + 1)) + 1 by omega, payR, if_pos ⟨h1, h2⟩]
theorem payR_no {ord : Nat → Nat} {n dn fu : Nat} {C : AW} {pd : Int32} (h2 : ¬ (C.2.2.2.getD (posO ord dn) (0, 0, 0, 0)).2.1 ≤ C.1) : payR ord n fu (C, dn, pd) = (C, dn, pd) := by
  cases fu with
  | zero => rfl
  | succ fu => rw [payR, if_neg (fun q => h2 q.2)]
theorem payR_end {ord : Nat → Nat} {n dn : Nat} {C : AW} {pd : Int32} (h : n ≤ dn) : payR ord n (n - dn) (C, dn, pd) = (C, dn, pd) := by
  rw [show n - dn = 0 by omega]; rfl
set_option maxHeartbeats 4000000 in
set_option maxRecDepth 100000 in
theorem mt_X0_daysBy (l : Launch) (D : va_G) (dA : Nat → ClassId) (rr : Nat → Option Nat) (xs : Nat → mSh) (ad : Nat → Nat) (N : Nat) (hA : xA ad N) (σ : mMem) (v : Nat) (hv : xw v) (hv75 : v ≠ 75) (A : AW) (hA0 : aR σ v A) (n : Nat) (hn : A.2.2.2.length = n) (hn6 : n ≤ 6) (ord : Nat → Nat) (hord : ∀ k, k < n → σ 20 k = nI (ord k)) (hok : okO ord n) : Met l yX0_daysBy (ws_ yX0_daysBy cX0_daysBy 9 (some .int)) ({ frames := 3, cells := 0, slots := 0, locals := 103 }) (va_Pc [.ref (ad 0), .ref (ad v)] (mPre D dA (shX rr xs) ad N σ)) (va_Qi (fun (r : Int32) (u : mMem) => r = (evO ord A).1 ∧ u 0 15 = (evO ord A).2 ∧ kpD σ u) (mB D dA (shX rr xs) ad N) (mAd ad N)) 0 0 (mAd ad N) := by
  refine Met.ofW (cc := cX0_daysBy) (maxL := 9) (ret := (some .int)) (by decide) rfl ?_
  intro pp ee ss mm args below meth cd s₁ B hml hv
  obtain ⟨rfl, hP, hE⟩ := hv
  have hx := B.exec
  have hb := B.bytes
  have hr := B.returns
  have hts := atoms_spec (ws := ws_ yX0_daysBy cX0_daysBy 9 (some .int)) B.pre
  have hts : ∀ w ∈ lw_all, w.before _ ss = true := fun w h => hts w (List.mem_cons_of_mem _ h)
  have hown : ss.vm.findClass RX0 = some mm.cls := findClass_of_methodNamed B.named
  have hlocks := B.notSynchronized
  have hD := hA.2.self
  have hS : va_S (mAd ad N) ss.heap ss.heap [] := va_S.rf
  have hNN := hA.1
  obtain ⟨hv1, hv2, hv3⟩ := id hv
  have hl := lv_entry ([.ref (ad 0), .ref (ad v)]) (n := 9) (Nat.le_of_ble_eq_true rfl)
  rw [lg_entry_eq]
  generalize (lg_sl ([.ref (ad 0), .ref (ad v)]) ++ List.replicate (9 - (lg_sl ([.ref (ad 0), .ref (ad v)])).length) Slot.unset).toArray = ls at hl ⊢
  have hl : lv_has ls 9 [(0, .ref (ad 0)), (1, .ref (ad v))] := hl
  refine lv_aload_n hx hb dX0_daysBy_0 rfl (lv_at hl 0 rfl) ?_
  refine mg_ref hx hb hts in_X0 hown hE hP 0 (xl_n hA (by decide)) rfl rfl 3 rfl (by decide) (hts _ q267) (fun _ h9 => h9) dX0_daysBy_1 ?_
  refine lv_astore_n (lv' := [(2, .ref (ad 75)), (0, .ref (ad 0)), (1, .ref (ad v))]) hx hb dX0_daysBy_4 rfl hl (by decide) rfl (fun ls hl => ?_)
  refine lv_aload_n hx hb dX0_daysBy_5 rfl (lv_at hl 0 rfl) ?_
  refine lv_aload_n hx hb dX0_daysBy_6 rfl (lv_at hl 2 rfl) ?_
  refine va_callv (va_runV (As := [.ref (ad v)]) (rest := []) ⟨hx, hb, hml, hown, hts⟩ (mt_X5_takeFrom l D dA rr xs ad N hA σ 75 xw75 v hv (by omega)) (cwV 1 hts (lw_V q561 q562 q563 q50 q564) rfl rfl rfl (by decide +kernel) ⟨Nat.le_of_ble_eq_true rfl, Nat.le_of_ble_eq_true rfl⟩) ⟨mPre.blind, m_recv hE hP 75 (xl_o hA xw75) (shX_o xw75) rfl, mPre.at hE hP⟩ rfl rfl hl.1 rfl (lv_room (Nat.le_of_ble_eq_true rfl)) dX0_daysBy_7 ⟨Nat.le_of_ble_eq_true rfl, Nat.le_of_ble_eq_true rfl⟩) hS (fun q _ h => h) (fun q h => h) (fun ur_1 tr_1 H locs ht h0 hr_1 hB h1 h2 hS => ?_)
  subst hr_1
  have hP := mB.get ht hB
  refine lv_aload_n hx hb dX0_daysBy_10 rfl (lv_at hl 1 rfl) ?_
  refine lv_iconst (v := 0) hx hb dX0_daysBy_11 (by decide) ?_
  refine mg_put (v := 0) (ty := .int) hx hb hts in_X0 tyX0 tyX0_ok nmX0 hown hE hD hP hS 0 (xl_n hA (by decide)) rfl rfl 15 rfl (by decide) (hts _ q279) (fun _ h9 => h9) rfl (by decide +kernel) rfl rfl dX0_daysBy_12 (fun H locs hP hS => ?_)
  refine lv_iconst (v := 0) hx hb dX0_daysBy_15 (by decide) ?_
  refine lv_istore_n (lv' := [(3, .int 0), (2, .ref (ad 75)), (0, .ref (ad 0)), (1, .ref (ad v))]) hx hb dX0_daysBy_16 rfl hl (by decide) rfl (fun ls hl => ?_)
  refine lv_iconst (v := 0) hx hb dX0_daysBy_17 (by decide) ?_
  refine lv_istore (lv' := [(4, .int 0), (3, .int 0), (2, .ref (ad 75)), (0, .ref (ad 0)), (1, .ref (ad v))]) hx hb dX0_daysBy_18 hl (by decide) rfl (fun ls hl => ?_)
  have lp20 : ∀ (fu : Nat) (d : Nat) (dn : Nat) (τ : mMem) (C : AW) (pd : Int32) (_ : d ≤ 361) (_ : dn ≤ n) (_ : dS σ τ C dn pd n) (_ : evO ord A = dayR ord n (361 - d) d (C, dn, pd)) (_ : 361 - d < fu) (H : Heap) (locs : List Loc) (_ : va_P D xCl (mW dA (shX rr xs) ad N τ) H) (_ : va_S (mAd ad N) ss.heap H locs) (ls : Array Slot) (_ : lv_has ls 9 [(4, .int (nI d)), (3, .int (nI dn)), (2, .ref (ad 75)), (0, .ref (ad 0)), (1, .ref (ad v))]), W pp l ee (headSpec (ws_ yX0_daysBy cX0_daysBy 9 (some .int)) ({ frames := 3, cells := 0, slots := 0, locals := 103 })).room ss mm ([.ref (ad 0), .ref (ad v)] : List Value).toArray below meth cd H locs 0 0 (MQ below (va_Qi (fun (r : Int32) (u : mMem) => r = (evO ord A).1 ∧ u 0 15 = (evO ord A).2 ∧ kpD σ u) (mB D dA (shX rr xs) ad N) (mAd ad N)) ([.ref (ad 0), .ref (ad v)] : List Value).toArray ss 0 0 (mAd ad N)) (F0 mm 20 ls []) := by
    intro fu
    induction fu with
    | zero => intro d dn τ C pd hd hdn hQ hev hfu; exact absurd hfu (Nat.not_lt_zero _)
    | succ fu ih20 =>
      intro d dn τ C pd hd hdn hQ hev hfu H locs hP hS ls hl
      refine lv_iload hx hb dX0_daysBy_20 (lv_at hl 0 rfl) ?_
      refine lv_sipush (v := 360) hx hb dX0_daysBy_22 (by decide) ?_
      refine lv_icmp_gt (tgt := 166) hx hb dX0_daysBy_25 (by decide) (fun c_2 => ?_) (fun c_2 => ?_)
      · have nc_2 : 360 < d := mi_lt rfl rfl (by omega) (by omega) c_2
        refine lv_bipush (v := (-4)) hx hb dX0_daysBy_166 (by decide) ?_
        exact W.iret (v := (-4)) hx hb hr (fun t ht hW => ⟨⟨_, _, rfl, ⟨by rw [hev, show 361 - d = 0 by omega]; rfl, by rw [hev, show 361 - d = 0 by omega]; exact hQ.2.2.1, hQ.2.2.2⟩, mB.of ht hP⟩, hS.F ht⟩) hS.2.2 dX0_daysBy_168
      · have nc_2 : d ≤ 360 := mi_nlt rfl rfl (by omega) (by omega) c_2
        refine lv_iconst (v := 1) hx hb dX0_daysBy_28 (by decide) ?_
        refine lv_istore (lv' := [(5, .int 1), (4, .int (nI d)), (3, .int (nI dn)), (2, .ref (ad 75)), (0, .ref (ad 0)), (1, .ref (ad v))]) hx hb dX0_daysBy_29 hl (by decide) rfl (fun ls hl => ?_)
        have lp31 : ∀ (fu : Nat) (dn2 : Nat) (τ2 : mMem) (C2 : AW) (pd2 : Int32) (_ : dn2 ≤ n) (_ : dS σ τ2 C2 dn2 pd2 n) (_ : payR ord n (n - dn) (C, dn, pd) = payR ord n (n - dn2) (C2, dn2, pd2)) (_ : n - dn2 < fu) (H : Heap) (locs : List Loc) (_ : va_P D xCl (mW dA (shX rr xs) ad N τ2) H) (_ : va_S (mAd ad N) ss.heap H locs) (ls : Array Slot) (_ : lv_has ls 9 [(5, .int 1), (4, .int (nI d)), (3, .int (nI dn2)), (2, .ref (ad 75)), (0, .ref (ad 0)), (1, .ref (ad v))]), W pp l ee (headSpec (ws_ yX0_daysBy cX0_daysBy 9 (some .int)) ({ frames := 3, cells := 0, slots := 0, locals := 103 })).room ss mm ([.ref (ad 0), .ref (ad v)] : List Value).toArray below meth cd H locs 0 0 (MQ below (va_Qi (fun (r : Int32) (u : mMem) => r = (evO ord A).1 ∧ u 0 15 = (evO ord A).2 ∧ kpD σ u) (mB D dA (shX rr xs) ad N) (mAd ad N)) ([.ref (ad 0), .ref (ad v)] : List Value).toArray ss 0 0 (mAd ad N)) (F0 mm 31 ls []) := by
          intro fu
          induction fu with
          | zero => intro dn2 τ2 C2 pd2 hdn2 hQ2 hpay hfu; exact absurd hfu (Nat.not_lt_zero _)
          | succ fu ih31 =>
            intro dn2 τ2 C2 pd2 hdn2 hQ2 hpay hfu H locs hP hS ls hl
            refine lv_iload hx hb dX0_daysBy_31 (lv_at hl 0 rfl) ?_
            refine lv_if_eq (tgt := 145) hx hb dX0_daysBy_33 (by decide) (fun c_3 => ?_) (fun c_3 => ?_)
            · skip
              exact absurd c_3 (by decide)
            · skip
              refine lv_iload_n hx hb dX0_daysBy_36 rfl (lv_at hl 2 rfl) ?_
              refine lv_aload_n hx hb dX0_daysBy_37 rfl (lv_at hl 5 rfl) ?_
              refine mg_getN hx hb hts in_X5 hown hE hP v (xl_o hA hv) (shX_o hv) rfl 6 rfl (by decide) q127 (fun _ h9 => h9) dX0_daysBy_38 ?_
              refine lv_icmp_ge (tgt := 145) hx hb dX0_daysBy_41 (by decide) (fun c_4 => ?_) (fun c_4 => ?_)
              · have nc_4 : n ≤ dn2 := mi_le (dS_v hQ2 hA0 hn (by omega) (by omega)) rfl (by omega) (by omega) c_4
                have hQ3 := hQ2
                have hfin : payR ord n (n - dn) (C, dn, pd) = (C2, dn2, pd2) := by rw [hpay, payR_end (by omega)]
                refine lv_iload_n hx hb dX0_daysBy_145 rfl (lv_at hl 2 rfl) ?_
                refine lv_aload_n hx hb dX0_daysBy_146 rfl (lv_at hl 5 rfl) ?_
                refine mg_getN hx hb hts in_X5 hown hE hP v (xl_o hA hv) (shX_o hv) rfl 6 rfl (by decide) q127 (fun _ h9 => h9) dX0_daysBy_147 ?_
                refine lv_icmp_ne (tgt := 156) hx hb dX0_daysBy_150 (by decide) (fun c_5 => ?_) (fun c_5 => ?_)
                · have nc_5 : dn2 ≠ n := mi_ne rfl (dS_v hQ2 hA0 hn (by omega) (by omega)) (by omega) (by omega) c_5
                  refine lv_aload_n hx hb dX0_daysBy_156 rfl (lv_at hl 3 rfl) ?_
                  refine va_callv (va_runV (As := []) (rest := []) ⟨hx, hb, hml, hown, hts⟩ (mt_X5_night l D dA rr xs ad N hA τ2 75 xw75 (n - dn2) (dS_n hQ2) (by omega) (aLd C2) (dS_ld hQ3)) (cwV 0 hts (lw_V q565 q490 q491 q50 q492) rfl rfl rfl (by decide +kernel) ⟨Nat.le_of_ble_eq_true rfl, Nat.le_of_ble_eq_true rfl⟩) ⟨mPre.blind, m_recv hE hP 75 (xl_o hA xw75) (shX_o xw75) rfl, mPre.at hE hP⟩ rfl rfl hl.1 rfl (lv_room (Nat.le_of_ble_eq_true rfl)) dX0_daysBy_157 ⟨Nat.le_of_ble_eq_true rfl, Nat.le_of_ble_eq_true rfl⟩) hS (fun q _ h => h) (fun q h => h) (fun ur_6 tr_6 H locs ht h0 hr_6 hB h1 h2 hS => ?_)
                  subst hr_6
                  have hP := mB.get ht hB
                  refine lv_iinc (v := (nI (d + 1))) (lv' := [(4, .int (nI (d + 1))), (5, .int 1), (3, .int (nI dn2)), (2, .ref (ad 75)), (0, .ref (ad 0)), (1, .ref (ad v))]) hx hb dX0_daysBy_160 hl (k := 1) rfl (mi_add rfl rfl) (by decide) rfl (fun ls hl => ?_)
                  refine lv_goto (tgt := 20) hx hb dX0_daysBy_163 (by decide) ?_
                  exact ih20  (d + 1) dn2 (ngt τ2 75 (n - dn2) (aLd C2)) (aNight C2) pd2 (by omega) (by omega) (dS_night hQ3) (by rw [hev, show 361 - d = (361 - (d + 1)) + 1 by omega, dayR, hfin, if_neg (by omega)] <;> rfl) (by omega) _ _ hP hS ls (lv_sub hl [0, 2, 3, 4, 5] rfl)
                · have nc_5 : dn2 = n := mi_eq rfl (dS_v hQ2 hA0 hn (by omega) (by omega)) (by omega) (by omega) c_5
                  refine lv_iload hx hb dX0_daysBy_153 (lv_at hl 1 rfl) ?_
                  exact W.iret (v := (nI d)) hx hb hr (fun t ht hW => ⟨⟨_, _, rfl, ⟨by rw [hev, show 361 - d = (360 - d) + 1 by omega, dayR, hfin, if_pos (by omega)], by rw [hev, show 361 - d = (360 - d) + 1 by omega, dayR, hfin, if_pos (by omega)]; exact hQ3.2.2.1, hQ3.2.2.2⟩, mB.of ht hP⟩, hS.F ht⟩) hS.2.2 dX0_daysBy_155
              · have nc_4 : dn2 < n := mi_nle (dS_v hQ2 hA0 hn (by omega) (by omega)) rfl (by omega) (by omega) c_4
                obtain ⟨ho1, ho2, ho3⟩ := hok dn2 (by omega)
                refine lv_aload_n hx hb dX0_daysBy_44 rfl (lv_at hl 4 rfl) ?_
                refine mg_ref hx hb hts in_X0 hown hE hP 0 (xl_n hA (by decide)) rfl rfl 11 rfl (by decide) (hts _ q275) (fun _ h9 => h9) dX0_daysBy_45 ?_
                refine lv_iload_n hx hb dX0_daysBy_48 rfl (lv_at hl 2 rfl) ?_
                refine mg_ild hx hb hE hP 20 (xl_n hA (by decide)) rfl dn2 (by omega) rfl (by decide) dX0_daysBy_49 ?_
                refine lv_rwi ((dS_o hQ2 (by omega)).trans (hord dn2 (by omega))) ?_
                refine lv_istore (lv' := [(6, .int (nI (ord dn2))), (5, .int 1), (4, .int (nI d)), (3, .int (nI dn2)), (2, .ref (ad 75)), (0, .ref (ad 0)), (1, .ref (ad v))]) hx hb dX0_daysBy_50 hl (by decide) rfl (fun ls hl => ?_)
                refine lv_iload hx hb dX0_daysBy_52 (lv_at hl 0 rfl) ?_
                refine lv_istore (lv' := [(7, .int (nI (ord dn2))), (6, .int (nI (ord dn2))), (5, .int 1), (4, .int (nI d)), (3, .int (nI dn2)), (2, .ref (ad 75)), (0, .ref (ad 0)), (1, .ref (ad v))]) hx hb dX0_daysBy_54 hl (by decide) rfl (fun ls hl => ?_)
                refine lv_iconst (v := 0) hx hb dX0_daysBy_56 (by decide) ?_
                refine lv_istore (lv' := [(8, .int 0), (7, .int (nI (ord dn2))), (6, .int (nI (ord dn2))), (5, .int 1), (4, .int (nI d)), (3, .int (nI dn2)), (2, .ref (ad 75)), (0, .ref (ad 0)), (1, .ref (ad v))]) hx hb dX0_daysBy_57 hl (by decide) rfl (fun ls hl => ?_)
                have lp59 : ∀ (fu : Nat) (k : Nat) (e : Nat) (_ : k ≤ dn2) (_ : e = ord dn2 - cntO ord (ord dn2) k) (_ : dn2 - k < fu) (ls : Array Slot) (_ : lv_has ls 9 [(8, .int (nI k)), (7, .int (nI e)), (6, .int (nI (ord dn2))), (5, .int 1), (4, .int (nI d)), (3, .int (nI dn2)), (2, .ref (ad 75)), (0, .ref (ad 0)), (1, .ref (ad v))]), W pp l ee (headSpec (ws_ yX0_daysBy cX0_daysBy 9 (some .int)) ({ frames := 3, cells := 0, slots := 0, locals := 103 })).room ss mm ([.ref (ad 0), .ref (ad v)] : List Value).toArray below meth cd H locs 0 0 (MQ below (va_Qi (fun (r : Int32) (u : mMem) => r = (evO ord A).1 ∧ u 0 15 = (evO ord A).2 ∧ kpD σ u) (mB D dA (shX rr xs) ad N) (mAd ad N)) ([.ref (ad 0), .ref (ad v)] : List Value).toArray ss 0 0 (mAd ad N)) (F0 mm 59 ls []) := by
                  intro fu
                  induction fu with
                  | zero => intro k e hk he hfu; exact absurd hfu (Nat.not_lt_zero _)
                  | succ fu ih59 =>
                    intro k e hk he hfu ls hl
                    refine lv_iload hx hb dX0_daysBy_59 (lv_at hl 0 rfl) ?_
                    refine lv_iload_n hx hb dX0_daysBy_61 rfl (lv_at hl 5 rfl) ?_
                    refine lv_icmp_ge (tgt := 93) hx hb dX0_daysBy_62 (by decide) (fun c_7 => ?_) (fun c_7 => ?_)
                    · have nc_7 : dn2 ≤ k := mi_le rfl rfl (by omega) (by omega) c_7
                      have hpos : posO ord dn2 = e := by unfold posO; rw [he, show k = dn2 by omega]
                      have hamt := dS_amt hQ2 (show e < n - dn2 by omega)
                      refine lv_aload_n hx hb dX0_daysBy_93 rfl (lv_at hl 6 rfl) ?_
                      refine lv_iload hx hb dX0_daysBy_94 (lv_at hl 1 rfl) ?_
                      refine vp_callSi (W.runV (As := [.int (nI e)]) (rest := []) ⟨hx, hb, hml, hown, hts⟩ (mt_X5_amount l D dA rr xs ad N hA τ2 75 xw75 (nI e) e rfl (by omega)) (cwV 1 hts (lw_V q370 q371 q372 q50 q373) rfl rfl rfl (by decide +kernel) ⟨Nat.le_of_ble_eq_true rfl, Nat.le_of_ble_eq_true rfl⟩) ⟨mPre.blind, m_recv hE hP 75 (xl_o hA xw75) (shX_o xw75) rfl, mPre.at hE hP⟩ rfl rfl hl.1 rfl (lv_room (Nat.le_of_ble_eq_true rfl)) dX0_daysBy_96 ⟨Nat.le_of_ble_eq_true rfl, Nat.le_of_ble_eq_true rfl⟩) (fun r_8 hr_8 => ?_)
                      subst hr_8
                      refine lv_istore (lv' := [(8, .int (τ2 77 (4 * e + 1))), (7, .int (nI e)), (6, .int (nI (ord dn2))), (5, .int 1), (4, .int (nI d)), (3, .int (nI dn2)), (2, .ref (ad 75)), (0, .ref (ad 0)), (1, .ref (ad v))]) hx hb dX0_daysBy_99 hl (by decide) rfl (fun ls hl => ?_)
                      refine lv_aload_n hx hb dX0_daysBy_101 rfl (lv_at hl 6 rfl) ?_
                      refine lv_iload hx hb dX0_daysBy_102 (lv_at hl 1 rfl) ?_
                      refine va_calli (va_runV (As := [.int (nI e)]) (rest := []) ⟨hx, hb, hml, hown, hts⟩ (mt_X5_pays l D dA rr xs ad N hA τ2 75 xw75 (nI e) e rfl (n - dn2) (dS_n hQ2) (by omega) (by omega)) (cwV 1 hts (lw_V q471 q472 q473 q50 q474) rfl rfl rfl (by decide +kernel) ⟨Nat.le_of_ble_eq_true rfl, Nat.le_of_ble_eq_true rfl⟩) ⟨mPre.blind, m_recv hE hP 75 (xl_o hA xw75) (shX_o xw75) rfl, mPre.at hE hP⟩ rfl rfl hl.1 rfl (lv_room (Nat.le_of_ble_eq_true rfl)) dX0_daysBy_104 ⟨Nat.le_of_ble_eq_true rfl, Nat.le_of_ble_eq_true rfl⟩) hS (fun q _ h => h) (fun q h => h) (fun r_9 ur_9 tr_9 H locs ht h0 hr_9 hB h1 h2 hS => ?_)
                      rcases hr_9 with ⟨hr_9, rfl, hu⟩ | ⟨hr_9, rfl, hu⟩
                      · have hP := m_eq hu (mB.get ht hB)
                        have hP : va_P D xCl (mW dA (shX rr xs) ad N (va_up (mup (mup τ2 75 0 (τ2 75 0 - τ2 77 (4 * e + 1))) 75 6 (nI ((n - dn2) - 1))) 77 (va_cpy ((mup τ2 75 0 (τ2 75 0 - τ2 77 (4 * e + 1))) 77) ((mup τ2 75 0 (τ2 75 0 - τ2 77 (4 * e + 1))) 77) (4 * (e + 1)) (4 * e) (4 * ((n - dn2) - 1 - e))))) H := hP
                        refine lv_istore (lv' := [(5, .int 1), (8, .int (τ2 77 (4 * e + 1))), (7, .int (nI e)), (6, .int (nI (ord dn2))), (4, .int (nI d)), (3, .int (nI dn2)), (2, .ref (ad 75)), (0, .ref (ad 0)), (1, .ref (ad v))]) hx hb dX0_daysBy_107 hl (by decide) rfl (fun ls hl => ?_)
                        refine lv_aload_n hx hb dX0_daysBy_109 rfl (lv_at hl 7 rfl) ?_
                        refine lv_dup hx hb dX0_daysBy_110 rfl ?_
                        refine mg_get hx hb hts in_X0 hown hE hP 0 (xl_n hA (by decide)) rfl rfl 15 rfl (by decide) (hts _ q279) (fun _ h9 => h9) dX0_daysBy_111 ?_
                        refine lv_rwi ((mv_row (by omega)).trans ((mup_ne1 (by omega)).trans (mup_ne1 (by omega)))) ?_
                        refine lv_iload hx hb dX0_daysBy_114 (lv_at hl 0 rfl) ?_
                        refine lv_if_eq (tgt := 124) hx hb dX0_daysBy_116 (by decide) (fun c_10 => ?_) (fun c_10 => ?_)
                        · skip
                          exact absurd c_10 (by decide)
                        · skip
                          refine lv_iload hx hb dX0_daysBy_119 (lv_at hl 1 rfl) ?_
                          refine lv_goto (tgt := 125) hx hb dX0_daysBy_121 (by decide) ?_
                          refine lv_iadd hx hb dX0_daysBy_125 ?_
                          refine mg_put (v := (τ2 0 15 + τ2 77 (4 * e + 1))) (ty := .int) hx hb hts in_X0 tyX0 tyX0_ok nmX0 hown hE hD hP hS 0 (xl_n hA (by decide)) rfl rfl 15 rfl (by decide) (hts _ q279) (fun _ h9 => h9) rfl (by decide +kernel) rfl rfl dX0_daysBy_126 (fun H locs hP hS => ?_)
                          refine lv_iload_n hx hb dX0_daysBy_129 rfl (lv_at hl 5 rfl) ?_
                          refine lv_iload hx hb dX0_daysBy_130 (lv_at hl 0 rfl) ?_
                          refine lv_if_eq (tgt := 139) hx hb dX0_daysBy_132 (by decide) (fun c_11 => ?_) (fun c_11 => ?_)
                          · skip
                            exact absurd c_11 (by decide)
                          · skip
                            refine lv_iconst (v := 1) hx hb dX0_daysBy_135 (by decide) ?_
                            refine lv_goto (tgt := 140) hx hb dX0_daysBy_136 (by decide) ?_
                            refine lv_iadd hx hb dX0_daysBy_140 ?_
                            refine lv_rwi (mi_add rfl rfl) ?_
                            refine lv_istore_n (lv' := [(3, .int (nI (dn2 + 1))), (5, .int 1), (8, .int (τ2 77 (4 * e + 1))), (7, .int (nI e)), (6, .int (nI (ord dn2))), (4, .int (nI d)), (2, .ref (ad 75)), (0, .ref (ad 0)), (1, .ref (ad v))]) hx hb dX0_daysBy_141 rfl hl (by decide) rfl (fun ls hl => ?_)
                            refine lv_goto (tgt := 31) hx hb dX0_daysBy_142 (by decide) ?_
                            exact ih31  (dn2 + 1) (mup (va_up (mup (mup τ2 75 0 (τ2 75 0 - τ2 77 (4 * e + 1))) 75 6 (nI ((n - dn2) - 1))) 77 (va_cpy ((mup τ2 75 0 (τ2 75 0 - τ2 77 (4 * e + 1))) 77) ((mup τ2 75 0 (τ2 75 0 - τ2 77 (4 * e + 1))) 77) (4 * (e + 1)) (4 * e) (4 * ((n - dn2) - 1 - e)))) 0 15 (τ2 0 15 + τ2 77 (4 * e + 1))) (aPay C2 e (C2.2.2.2.getD e (0, 0, 0, 0))) (pd2 + (C2.2.2.2.getD e (0, 0, 0, 0)).2.1) (by omega) (dS_pay hQ2 (show e < n - dn2 by omega)) (by rw [hpay, payR_go (by omega) (by rw [hpos, ← hamt, ← hQ2.1.1]; exact hr_9), hpos]) (by omega) _ _ hP hS ls (lv_sub hl [1, 5, 0, 6, 7, 8] rfl)
                      · have hP := m_eq hu (mB.get ht hB)
                        refine lv_istore (lv' := [(5, .int 0), (8, .int (τ2 77 (4 * e + 1))), (7, .int (nI e)), (6, .int (nI (ord dn2))), (4, .int (nI d)), (3, .int (nI dn2)), (2, .ref (ad 75)), (0, .ref (ad 0)), (1, .ref (ad v))]) hx hb dX0_daysBy_107 hl (by decide) rfl (fun ls hl => ?_)
                        refine lv_aload_n hx hb dX0_daysBy_109 rfl (lv_at hl 7 rfl) ?_
                        refine lv_dup hx hb dX0_daysBy_110 rfl ?_
                        refine mg_get hx hb hts in_X0 hown hE hP 0 (xl_n hA (by decide)) rfl rfl 15 rfl (by decide) (hts _ q279) (fun _ h9 => h9) dX0_daysBy_111 ?_
                        refine lv_iload hx hb dX0_daysBy_114 (lv_at hl 0 rfl) ?_
                        refine lv_if_eq (tgt := 124) hx hb dX0_daysBy_116 (by decide) (fun c_12 => ?_) (fun c_12 => ?_)
                        · skip
                          refine lv_iconst (v := 0) hx hb dX0_daysBy_124 (by decide) ?_
                          refine lv_iadd hx hb dX0_daysBy_125 ?_
                          refine mg_put (v := (τ2 0 15 + 0)) (ty := .int) hx hb hts in_X0 tyX0 tyX0_ok nmX0 hown hE hD hP hS 0 (xl_n hA (by decide)) rfl rfl 15 rfl (by decide) (hts _ q279) (fun _ h9 => h9) rfl (by decide +kernel) rfl rfl dX0_daysBy_126 (fun H locs hP hS => ?_)
                          refine lv_iload_n hx hb dX0_daysBy_129 rfl (lv_at hl 5 rfl) ?_
                          refine lv_iload hx hb dX0_daysBy_130 (lv_at hl 0 rfl) ?_
                          refine lv_if_eq (tgt := 139) hx hb dX0_daysBy_132 (by decide) (fun c_13 => ?_) (fun c_13 => ?_)
                          · skip
                            refine lv_iconst (v := 0) hx hb dX0_daysBy_139 (by decide) ?_
                            refine lv_iadd hx hb dX0_daysBy_140 ?_
                            refine lv_rwi (mi_add rfl rfl) ?_
                            refine lv_istore_n (lv' := [(3, .int (nI (dn2 + 0))), (5, .int 0), (8, .int (τ2 77 (4 * e + 1))), (7, .int (nI e)), (6, .int (nI (ord dn2))), (4, .int (nI d)), (2, .ref (ad 75)), (0, .ref (ad 0)), (1, .ref (ad v))]) hx hb dX0_daysBy_141 rfl hl (by decide) rfl (fun ls hl => ?_)
                            refine lv_goto (tgt := 31) hx hb dX0_daysBy_142 (by decide) ?_
                            refine lv_iload hx hb dX0_daysBy_31 (lv_at hl 1 rfl) ?_
                            refine lv_if_eq (tgt := 145) hx hb dX0_daysBy_33 (by decide) (fun c_14 => ?_) (fun c_14 => ?_)
                            · skip
                              have hQ3 := dS_nop hQ2
                              have hfin : payR ord n (n - dn) (C, dn, pd) = (C2, dn2, pd2) := by rw [hpay, payR_no (by rw [hpos, ← hamt, ← hQ2.1.1]; exact hr_9)]
                              refine lv_iload_n hx hb dX0_daysBy_145 rfl (lv_at hl 0 rfl) ?_
                              refine lv_aload_n hx hb dX0_daysBy_146 rfl (lv_at hl 8 rfl) ?_
                              refine mg_getN hx hb hts in_X5 hown hE hP v (xl_o hA hv) (shX_o hv) rfl 6 rfl (by decide) q127 (fun _ h9 => h9) dX0_daysBy_147 ?_
                              refine lv_rwi (mup_ne1 (by omega)) ?_
                              refine lv_icmp_ne (tgt := 156) hx hb dX0_daysBy_150 (by decide) (fun c_15 => ?_) (fun c_15 => ?_)
                              · have nc_15 : dn2 + 0 ≠ n := mi_ne rfl (dS_v hQ2 hA0 hn (by omega) (by omega)) (by omega) (by omega) c_15
                                refine lv_aload_n hx hb dX0_daysBy_156 rfl (lv_at hl 6 rfl) ?_
                                refine va_callv (va_runV (As := []) (rest := []) ⟨hx, hb, hml, hown, hts⟩ (mt_X5_night l D dA rr xs ad N hA (mup τ2 0 15 (τ2 0 15 + 0)) 75 xw75 (n - dn2) ((mup_ne1 (by omega)).trans (dS_n hQ2)) (by omega) (aLd C2) (dS_ld hQ3)) (cwV 0 hts (lw_V q565 q490 q491 q50 q492) rfl rfl rfl (by decide +kernel) ⟨Nat.le_of_ble_eq_true rfl, Nat.le_of_ble_eq_true rfl⟩) ⟨mPre.blind, m_recv hE hP 75 (xl_o hA xw75) (shX_o xw75) rfl, mPre.at hE hP⟩ rfl rfl hl.1 rfl (lv_room (Nat.le_of_ble_eq_true rfl)) dX0_daysBy_157 ⟨Nat.le_of_ble_eq_true rfl, Nat.le_of_ble_eq_true rfl⟩) hS (fun q _ h => h) (fun q h => h) (fun ur_16 tr_16 H locs ht h0 hr_16 hB h1 h2 hS => ?_)
                                subst hr_16
                                have hP := mB.get ht hB
                                refine lv_iinc (v := (nI (d + 1))) (lv' := [(4, .int (nI (d + 1))), (3, .int (nI (dn2 + 0))), (5, .int 0), (8, .int (τ2 77 (4 * e + 1))), (7, .int (nI e)), (6, .int (nI (ord dn2))), (2, .ref (ad 75)), (0, .ref (ad 0)), (1, .ref (ad v))]) hx hb dX0_daysBy_160 hl (k := 5) rfl (mi_add rfl rfl) (by decide) rfl (fun ls hl => ?_)
                                refine lv_goto (tgt := 20) hx hb dX0_daysBy_163 (by decide) ?_
                                exact ih20  (d + 1) (dn2 + 0) (ngt (mup τ2 0 15 (τ2 0 15 + 0)) 75 (n - dn2) (aLd C2)) (aNight C2) pd2 (by omega) (by omega) (dS_night hQ3) (by rw [hev, show 361 - d = (361 - (d + 1)) + 1 by omega, dayR, hfin, if_neg (by omega)] <;> rfl) (by omega) _ _ hP hS ls (lv_sub hl [0, 1, 6, 7, 8] rfl)
                              · have nc_15 : dn2 + 0 = n := mi_eq rfl (dS_v hQ2 hA0 hn (by omega) (by omega)) (by omega) (by omega) c_15
                                refine lv_iload hx hb dX0_daysBy_153 (lv_at hl 5 rfl) ?_
                                exact W.iret (v := (nI d)) hx hb hr (fun t ht hW => ⟨⟨_, _, rfl, ⟨by rw [hev, show 361 - d = (360 - d) + 1 by omega, dayR, hfin, if_pos (by omega)], by rw [hev, show 361 - d = (360 - d) + 1 by omega, dayR, hfin, if_pos (by omega)]; exact hQ3.2.2.1, hQ3.2.2.2⟩, mB.of ht hP⟩, hS.F ht⟩) hS.2.2 dX0_daysBy_155
                            · skip
                              exact absurd c_14 (by decide)
                          · skip
                            exact absurd c_13 (by decide)
                        · skip
                          exact absurd c_12 (by decide)
                    · have nc_7 : k < dn2 := mi_nle rfl rfl (by omega) (by omega) c_7
                      have hok1 := (hok k (by omega)).1
                      have hck := Nat.le_trans (cntO_le (ord := ord) (c := ord dn2) (show k + 1 ≤ dn2 by omega)) ho2
                      refine lv_iload hx hb dX0_daysBy_65 (lv_at hl 1 rfl) ?_
                      refine lv_aload_n hx hb dX0_daysBy_67 rfl (lv_at hl 7 rfl) ?_
                      refine mg_ref hx hb hts in_X0 hown hE hP 0 (xl_n hA (by decide)) rfl rfl 11 rfl (by decide) (hts _ q275) (fun _ h9 => h9) dX0_daysBy_68 ?_
                      refine lv_iload hx hb dX0_daysBy_71 (lv_at hl 0 rfl) ?_
                      refine mg_ild hx hb hE hP 20 (xl_n hA (by decide)) rfl k (by omega) rfl (by decide) dX0_daysBy_73 ?_
                      refine lv_iload hx hb dX0_daysBy_74 (lv_at hl 2 rfl) ?_
                      refine lv_icmp_ge (tgt := 83) hx hb dX0_daysBy_76 (by decide) (fun c_17 => ?_) (fun c_17 => ?_)
                      · have nc_17 : ord dn2 ≤ ord k := mi_le rfl ((dS_o hQ2 (by omega)).trans (hord k (by omega))) (by omega) (by omega) c_17
                        have hck1 : cntO ord (ord dn2) (k + 1) = cntO ord (ord dn2) k := by rw [cntO, if_neg (by omega), Nat.add_zero]
                        refine lv_iconst (v := 0) hx hb dX0_daysBy_83 (by decide) ?_
                        refine lv_isub hx hb dX0_daysBy_84 ?_
                        refine lv_rwi (mi_sub (a := e) (b := 0) rfl rfl (by omega)) ?_
                        refine lv_istore (lv' := [(7, .int (nI (e - 0))), (8, .int (nI k)), (6, .int (nI (ord dn2))), (5, .int 1), (4, .int (nI d)), (3, .int (nI dn2)), (2, .ref (ad 75)), (0, .ref (ad 0)), (1, .ref (ad v))]) hx hb dX0_daysBy_85 hl (by decide) rfl (fun ls hl => ?_)
                        refine lv_iinc (v := (nI (k + 1))) (lv' := [(8, .int (nI (k + 1))), (7, .int (nI (e - 0))), (6, .int (nI (ord dn2))), (5, .int 1), (4, .int (nI d)), (3, .int (nI dn2)), (2, .ref (ad 75)), (0, .ref (ad 0)), (1, .ref (ad v))]) hx hb dX0_daysBy_87 hl (k := 1) rfl (mi_add rfl rfl) (by decide) rfl (fun ls hl => ?_)
                        refine lv_goto (tgt := 59) hx hb dX0_daysBy_90 (by decide) ?_
                        exact ih59  (k + 1) (e - 0) (by omega) (by omega) (by omega) ls (lv_sub hl [0, 1, 2, 3, 4, 5, 6, 7, 8] rfl)
                      · have nc_17 : ord k < ord dn2 := mi_nle rfl ((dS_o hQ2 (by omega)).trans (hord k (by omega))) (by omega) (by omega) c_17
                        have hck1 : cntO ord (ord dn2) (k + 1) = cntO ord (ord dn2) k + 1 := by rw [cntO, if_pos (by omega)]
                        refine lv_iconst (v := 1) hx hb dX0_daysBy_79 (by decide) ?_
                        refine lv_goto (tgt := 84) hx hb dX0_daysBy_80 (by decide) ?_
                        refine lv_isub hx hb dX0_daysBy_84 ?_
                        refine lv_rwi (mi_sub (a := e) (b := 1) rfl rfl (by omega)) ?_
                        refine lv_istore (lv' := [(7, .int (nI (e - 1))), (8, .int (nI k)), (6, .int (nI (ord dn2))), (5, .int 1), (4, .int (nI d)), (3, .int (nI dn2)), (2, .ref (ad 75)), (0, .ref (ad 0)), (1, .ref (ad v))]) hx hb dX0_daysBy_85 hl (by decide) rfl (fun ls hl => ?_)
                        refine lv_iinc (v := (nI (k + 1))) (lv' := [(8, .int (nI (k + 1))), (7, .int (nI (e - 1))), (6, .int (nI (ord dn2))), (5, .int 1), (4, .int (nI d)), (3, .int (nI dn2)), (2, .ref (ad 75)), (0, .ref (ad 0)), (1, .ref (ad v))]) hx hb dX0_daysBy_87 hl (k := 1) rfl (mi_add rfl rfl) (by decide) rfl (fun ls hl => ?_)
                        refine lv_goto (tgt := 59) hx hb dX0_daysBy_90 (by decide) ?_
                        exact ih59  (k + 1) (e - 1) (by omega) (by omega) (by omega) ls (lv_sub hl [0, 1, 2, 3, 4, 5, 6, 7, 8] rfl)
                exact lp59 (dn2 - 0 + 1) 0 (ord dn2) (by omega) (by rfl) (by omega) ls (lv_sub hl [0, 1, 2, 3, 4, 5, 6, 7, 8] rfl)
        exact lp31 (n - dn + 1) dn τ C pd (by omega) hQ rfl (by omega) _ _ hP hS ls (lv_sub hl [0, 1, 2, 3, 4, 5] rfl)
  exact lp20 (361 - 0 + 1) 0 0 (mup (tkf σ 75 v) 0 15 0) A 0 (by omega) (by omega) (dS_start hA0 hn hv (by omega)) (by unfold evO; rw [hn]) (by omega) _ _ hP hS ls (lv_sub hl [0, 1, 2, 3, 4] rfl)
