set_option maxHeartbeats 4000000 in
set_option maxRecDepth 100000 in
theorem mt_X8_bestFree (l : Launch) (D : va_G) (dA : Nat → ClassId) (st : Nat) (hst : st = 1 ∨ st = 2) (ad : Nat → Nat) (N : Nat) (hA : yA ad N) (σ : mMem) (x : Int32) (p : Nat) (hx0 : x = nI p) (hp5 : p < 5) (n : Nat) (hn6 : n ≤ 6) (A : AW) (hs : sR σ p A) (hn : A.2.2.2.length = n) (ru : Nat) (hru : σ 5 0 = nI ru) (hru3 : ru < 3) : Met l yX8_bestFree (ws_ yX8_bestFree cX8_bestFree 8 (some .int)) ({ frames := 3, cells := 0, slots := 0, locals := 73 }) (va_Pc [.ref (ad 0), .int x] (mPre D dA (shM st) ad N σ)) (va_Qi (fun (r : Int32) (u : mMem × Nat) => r = (bestY A ru).1 ∧ ((bestY A ru).1 < 361 → u.1 0 20 = (bestY A ru).2.1 ∧ ∀ k, k < n → u.1 11 k = nI ((bestY A ru).2.2 k)) ∧ kpB σ u.1 ∧ (u.2 = 1 ∨ u.2 = 2)) (mBM D dA ad N) (mAd ad N)) 0 0 (mAd ad N) := by
  refine Met.ofW (cc := cX8_bestFree) (maxL := 8) (ret := (some .int)) (by decide) rfl ?_
  intro pp ee ss mm args below meth cd s₁ B hml hv
  obtain ⟨rfl, hP, hE⟩ := hv
  have hx := B.exec
  have hb := B.bytes
  have hr := B.returns
  have hts := atoms_spec (ws := ws_ yX8_bestFree cX8_bestFree 8 (some .int)) B.pre
  have hts : ∀ w ∈ lw_all, w.before _ ss = true := fun w h => hts w (List.mem_cons_of_mem _ h)
  have hown : ss.vm.findClass RX8 = some mm.cls := findClass_of_methodNamed B.named
  have hlocks := B.notSynchronized
  have hD := hA.2.self
  have hS : va_S (mAd ad N) ss.heap ss.heap [] := va_S.rf
  have hNN := hA.1
  have hl := lv_entry ([.ref (ad 0), .int x]) (n := 8) (Nat.le_of_ble_eq_true rfl)
  rw [lg_entry_eq]
  generalize (lg_sl ([.ref (ad 0), .int x]) ++ List.replicate (8 - (lg_sl ([.ref (ad 0), .int x])).length) Slot.unset).toArray = ls at hl ⊢
  have hl : lv_has ls 8 [(0, .ref (ad 0)), (1, .int x)] := hl
  refine lv_aload_n hx hb dX8_bestFree_0 rfl (lv_at hl 0 rfl) ?_
  refine mg_ref hx hb hts in_X8 hown hE hP 0 (yl_n hA (by decide)) rfl rfl 21 rfl (by decide) (hts _ q785) (fun _ h9 => h9) dX8_bestFree_1 ?_
  refine lv_iconst (v := 3) hx hb dX8_bestFree_4 (by decide) ?_
  refine mg_ild hx hb hE hP 12 (yl_n hA (by decide)) rfl 3 (by omega) rfl (by decide) dX8_bestFree_5 ?_
  refine lv_rwi (hs.2.2.2.1.trans (congrArg nI hn)) ?_
  refine lv_istore_n (lv' := [(2, .int (nI n)), (0, .ref (ad 0)), (1, .int x)]) hx hb dX8_bestFree_6 rfl hl (by decide) rfl (fun ls hl => ?_)
  refine lv_sipush (v := 361) hx hb dX8_bestFree_7 (by decide) ?_
  refine lv_istore_n (lv' := [(3, .int 361), (2, .int (nI n)), (0, .ref (ad 0)), (1, .int x)]) hx hb dX8_bestFree_10 rfl hl (by decide) rfl (fun ls hl => ?_)
  refine lv_iconst (v := 0) hx hb dX8_bestFree_11 (by decide) ?_
  refine lv_istore (lv' := [(4, .int 0), (3, .int 361), (2, .int (nI n)), (0, .ref (ad 0)), (1, .int x)]) hx hb dX8_bestFree_12 hl (by decide) rfl (fun ls hl => ?_)
  have lp14 : ∀ (fu : Nat) (k : Nat) (_ : k ≤ n) (_ : n - k < fu) (H : Heap) (locs : List Loc) (_ : va_P D xCl (mW dA (shM st) ad N (idF σ k)) H) (_ : va_S (mAd ad N) ss.heap H locs) (ls : Array Slot) (_ : lv_has ls 8 [(4, .int (nI k)), (3, .int 361), (2, .int (nI n)), (0, .ref (ad 0)), (1, .int x)]), W pp l ee (headSpec (ws_ yX8_bestFree cX8_bestFree 8 (some .int)) ({ frames := 3, cells := 0, slots := 0, locals := 73 })).room ss mm ([.ref (ad 0), .int x] : List Value).toArray below meth cd H locs 0 0 (MQ below (va_Qi (fun (r : Int32) (u : mMem × Nat) => r = (bestY A ru).1 ∧ ((bestY A ru).1 < 361 → u.1 0 20 = (bestY A ru).2.1 ∧ ∀ k, k < n → u.1 11 k = nI ((bestY A ru).2.2 k)) ∧ kpB σ u.1 ∧ (u.2 = 1 ∨ u.2 = 2)) (mBM D dA ad N) (mAd ad N)) ([.ref (ad 0), .int x] : List Value).toArray ss 0 0 (mAd ad N)) (F0 mm 14 ls []) := by
    intro fu
    induction fu with
    | zero => intro k hk hfu; exact absurd hfu (Nat.not_lt_zero _)
    | succ fu ih14 =>
      intro k hk hfu H locs hP hS ls hl
      refine lv_iload hx hb dX8_bestFree_14 (lv_at hl 0 rfl) ?_
      refine lv_iload_n hx hb dX8_bestFree_16 rfl (lv_at hl 2 rfl) ?_
      refine lv_icmp_ge (tgt := 35) hx hb dX8_bestFree_17 (by decide) (fun c_1 => ?_) (fun c_1 => ?_)
      · have nc_1 : n ≤ k := mi_le rfl rfl (by omega) (by omega) c_1
        refine lv_iconst (v := 1) hx hb dX8_bestFree_35 (by decide) ?_
        refine lv_istore (lv' := [(4, .int 1), (3, .int 361), (2, .int (nI n)), (0, .ref (ad 0)), (1, .int x)]) hx hb dX8_bestFree_36 hl (by decide) rfl (fun ls hl => ?_)
        have lp38 : ∀ (fu : Nat) (l_ : List Nat) (Z : Int32 × Int32 × (Nat → Nat)) (fu2 : Nat) (st2 : Nat) (τ : mMem) (_ : st2 = 1 ∨ st2 = 2) (_ : ∀ k, k < n → τ 10 k = nI (lf l_ k) ∧ lf l_ k < 6) (_ : Z.1 ≤ 361) (_ : Z.1 < 361 → τ 0 20 = Z.2.1 ∧ ∀ k, k < n → τ 11 k = nI (Z.2.2 k)) (_ : kpB σ τ) (_ : bestY A ru = List.foldl (stM A ru n) Z (seqT n fu2 l_)) (_ : endT n fu2 l_ = true) (_ : ∀ w, w ∈ seqT n fu2 l_ → lawB ru n (lf w) n = true → okO (lf w) n) (_ : fu2 < fu) (H : Heap) (locs : List Loc) (_ : va_P D xCl (mW dA (shM st2) ad N τ) H) (_ : va_S (mAd ad N) ss.heap H locs) (ls : Array Slot) (_ : lv_has ls 8 [(4, .int 1), (3, .int Z.1), (2, .int (nI n)), (0, .ref (ad 0)), (1, .int x)]), W pp l ee (headSpec (ws_ yX8_bestFree cX8_bestFree 8 (some .int)) ({ frames := 3, cells := 0, slots := 0, locals := 73 })).room ss mm ([.ref (ad 0), .int x] : List Value).toArray below meth cd H locs 0 0 (MQ below (va_Qi (fun (r : Int32) (u : mMem × Nat) => r = (bestY A ru).1 ∧ ((bestY A ru).1 < 361 → u.1 0 20 = (bestY A ru).2.1 ∧ ∀ k, k < n → u.1 11 k = nI ((bestY A ru).2.2 k)) ∧ kpB σ u.1 ∧ (u.2 = 1 ∨ u.2 = 2)) (mBM D dA ad N) (mAd ad N)) ([.ref (ad 0), .int x] : List Value).toArray ss 0 0 (mAd ad N)) (F0 mm 38 ls []) := by
          intro fu
          induction fu with
          | zero => intro l_ Z fu2 st2 τ hst2 hlo hle hzr hke hfo hen hgo hfu; exact absurd hfu (Nat.not_lt_zero _)
          | succ fu ih38 =>
            intro l_ Z fu2 st2 τ hst2 hlo hle hzr hke hfo hen hgo hfu H locs hP hS ls hl
            refine lv_iload hx hb dX8_bestFree_38 (lv_at hl 0 rfl) ?_
            refine lv_if_eq (tgt := 158) hx hb dX8_bestFree_40 (by decide) (fun c_2 => ?_) (fun c_2 => ?_)
            · skip
              exact absurd c_2 (by decide)
            · skip
              refine lv_aload_n hx hb dX8_bestFree_43 rfl (lv_at hl 3 rfl) ?_
              refine lv_iload_n hx hb dX8_bestFree_44 rfl (lv_at hl 2 rfl) ?_
              refine vp_callSi (W.runV (As := [.int (nI n)]) (rest := []) ⟨hx, hb, hml, hown, hts⟩ (mt_X8_isLawful l D dA st2 hst2 ad N hA τ (nI n) n rfl hn6 (lf l_) hlo ru ((hke 5 0 (by decide) (by decide)).trans hru) hru3) (cwV 1 hts (lw_V q1020 q1022 qs38 q55 q1023) rfl rfl rfl (by decide +kernel) ⟨Nat.le_of_ble_eq_true rfl, Nat.le_of_ble_eq_true rfl⟩) ⟨mPre.blind, m_recv hE hP 0 (yl_n hA (by decide)) rfl rfl, mPre.at hE hP⟩ rfl rfl hl.1 rfl (lv_room (Nat.le_of_ble_eq_true rfl)) dX8_bestFree_45 ⟨Nat.le_of_ble_eq_true rfl, Nat.le_of_ble_eq_true rfl⟩) (fun r_3 hr_3 => ?_)
              subst hr_3
              refine lv_if_eq (tgt := 60) hx hb dX8_bestFree_48 (by decide) (fun c_4 => ?_) (fun c_4 => ?_)
              · have c_4 : ¬ (lawB ru n (lf l_) n = true) := bi_f c_4
                refine lv_sipush (v := 361) hx hb dX8_bestFree_60 (by decide) ?_
                refine lv_istore (lv' := [(5, .int 361), (4, .int 1), (3, .int Z.1), (2, .int (nI n)), (0, .ref (ad 0)), (1, .int x)]) hx hb dX8_bestFree_63 hl (by decide) rfl (fun ls hl => ?_)
                refine lv_iload hx hb dX8_bestFree_65 (lv_at hl 0 rfl) ?_
                refine lv_iload_n hx hb dX8_bestFree_67 rfl (lv_at hl 2 rfl) ?_
                refine lv_icmp_lt (tgt := 96) hx hb dX8_bestFree_68 (by decide) (fun c_5 => ?_) (fun c_5 => ?_)
                · skip
                  exact absurd c_5 (Int32.not_lt.mpr hle)
                · skip
                  refine lv_iload hx hb dX8_bestFree_71 (lv_at hl 0 rfl) ?_
                  refine lv_sipush (v := 361) hx hb dX8_bestFree_73 (by decide) ?_
                  refine lv_icmp_ge (tgt := 100) hx hb dX8_bestFree_76 (by decide) (fun c_6 => ?_) (fun c_6 => ?_)
                  · skip
                    refine lv_iconst (v := 0) hx hb dX8_bestFree_100 (by decide) ?_
                    refine lv_istore (lv' := [(6, .int 0), (5, .int 361), (4, .int 1), (3, .int Z.1), (2, .int (nI n)), (0, .ref (ad 0)), (1, .int x)]) hx hb dX8_bestFree_101 hl (by decide) rfl (fun ls hl => ?_)
                    refine lv_iload hx hb dX8_bestFree_103 (lv_at hl 0 rfl) ?_
                    refine lv_if_eq (tgt := 148) hx hb dX8_bestFree_105 (by decide) (fun c_7 => ?_) (fun c_7 => ?_)
                    · skip
                      have hst : stM A ru n Z l_ = Z := by unfold stM ownM; rw [if_neg c_4]; exact if_neg (fun q => q.elim (fun z => absurd z (Int32.not_lt.mpr hle)) (fun z => absurd z.1 (by decide)))
                      have hzr2 := hzr
                      have hke2 := hke
                      have hlo2 := hlo
                      refine lv_aload_n hx hb dX8_bestFree_148 rfl (lv_at hl 5 rfl) ?_
                      refine lv_iload_n hx hb dX8_bestFree_149 rfl (lv_at hl 4 rfl) ?_
                      refine va_calli (va_runV (As := [.int (nI n)]) (rest := []) ⟨hx, hb, hml, hown, hts⟩ (mt_X8_turns l D dA st2 hst2 ad N hA τ (nI n) n rfl hn6 (lf l_) hlo2) (cwV 1 hts (lw_V q1028 q1030 qs40 q55 q1031) rfl rfl rfl (by decide +kernel) ⟨Nat.le_of_ble_eq_true rfl, Nat.le_of_ble_eq_true rfl⟩) ⟨mPre.blind, m_recv hE hP 0 (yl_n hA (by decide)) rfl rfl, mPre.at hE hP⟩ rfl rfl hl.1 rfl (lv_room (Nat.le_of_ble_eq_true rfl)) dX8_bestFree_150 ⟨Nat.le_of_ble_eq_true rfl, Nat.le_of_ble_eq_true rfl⟩) hS (fun q _ h => h) (fun q h => h) (fun r_8 ur_8 tr_8 H locs ht h0 hr_8 hB h1 h2 hS => ?_)
                      rcases hr_8 with ⟨htn, rfl, hu⟩ | ⟨q, htn, rfl, hqm, hqk⟩
                      · have hP := m_eq hu (mB.get ht hB)
                        refine lv_istore (lv' := [(4, .int 0), (6, .int 0), (5, .int 361), (3, .int Z.1), (2, .int (nI n)), (0, .ref (ad 0)), (1, .int x)]) hx hb dX8_bestFree_153 hl (by decide) rfl (fun ls hl => ?_)
                        refine lv_goto (tgt := 38) hx hb dX8_bestFree_155 (by decide) ?_
                        refine lv_iload hx hb dX8_bestFree_38 (lv_at hl 0 rfl) ?_
                        refine lv_if_eq (tgt := 158) hx hb dX8_bestFree_40 (by decide) (fun c_9 => ?_) (fun c_9 => ?_)
                        · skip
                          refine lv_iload_n hx hb dX8_bestFree_158 rfl (lv_at hl 3 rfl) ?_
                          exact W.iret (v := Z.1) hx hb hr (fun t ht hW => ⟨⟨_, (τ, st2), rfl, ⟨by rw [hfo, seqT_e (next_none htn), List.foldl_cons, List.foldl_nil, hst], by rw [hfo, seqT_e (next_none htn), List.foldl_cons, List.foldl_nil, hst]; exact hzr2, hke2, hst2⟩, mBM.of ht hP⟩, hS.F ht⟩) hS.2.2 dX8_bestFree_159
                        · skip
                          exact absurd c_9 (by decide)
                      · have hP := mB.get ht hB
                        have hfp := fu_pos hen (next_some htn)
                        refine lv_istore (lv' := [(4, .int 1), (6, .int 0), (5, .int 361), (3, .int Z.1), (2, .int (nI n)), (0, .ref (ad 0)), (1, .int x)]) hx hb dX8_bestFree_153 hl (by decide) rfl (fun ls hl => ?_)
                        refine lv_goto (tgt := 38) hx hb dX8_bestFree_155 (by decide) ?_
                        exact ih38  ((List.range n).map q) Z (fu2 - 1) st2 ur_8 hst2 (lo_map hqm) hle (zr_k hzr2 hqk) (kpB_k hke2 hqk) (by rw [hfo, seqT_s (next_some htn) (fu_pos hen (next_some htn)), List.foldl_cons, hst]) (endT_s (next_some htn) (fu_pos hen (next_some htn)) hen) (fun w hw => hgo w (by rw [seqT_s (next_some htn) (fu_pos hen (next_some htn))]; exact List.mem_cons_of_mem _ hw)) (by omega) _ _ hP hS ls (lv_sub hl [0, 3, 4, 5, 6] rfl)
                    · skip
                      exact absurd c_7 (by decide)
                  · skip
                    exact absurd c_6 (by decide)
              · have c_4 : lawB ru n (lf l_) n = true := bi_t c_4
                refine lv_aload_n hx hb dX8_bestFree_51 rfl (lv_at hl 3 rfl) ?_
                refine lv_iload_n hx hb dX8_bestFree_52 rfl (lv_at hl 4 rfl) ?_
                refine lv_iload_n hx hb dX8_bestFree_53 rfl (lv_at hl 2 rfl) ?_
                refine va_calli (va_runV (As := [.int x, .int (nI n)]) (rest := []) ⟨hx, hb, hml, hown, hts⟩ (mt_X8_freeBy l D dA st2 hst2 ad N hA τ x p hx0 hp5 (nI n) n rfl hn6 A (sR_B hs hke) hn (lf l_) hlo (hgo l_ seqT_h c_4)) (cwV 2 hts (lw_V q1024 q1026 qs39 q55 q1027) rfl rfl rfl (by decide +kernel) ⟨Nat.le_of_ble_eq_true rfl, Nat.le_of_ble_eq_true rfl⟩) ⟨mPre.blind, m_recv hE hP 0 (yl_n hA (by decide)) rfl rfl, mPre.at hE hP⟩ rfl rfl hl.1 rfl (lv_room (Nat.le_of_ble_eq_true rfl)) dX8_bestFree_54 ⟨Nat.le_of_ble_eq_true rfl, Nat.le_of_ble_eq_true rfl⟩) hS (fun q _ h => h) (fun q h => h) (fun r_10 ur_10 tr_10 H locs ht h0 hr_10 hB h1 h2 hS => ?_)
                obtain ⟨rfl, hpd, hkp, hu2⟩ := hr_10
                have hP := mBM.get2 ht hu2 hB
                refine lv_goto (tgt := 63) hx hb dX8_bestFree_57 (by decide) ?_
                refine lv_istore (lv' := [(5, .int (nev (evO (lf l_) A).1)), (4, .int 1), (3, .int Z.1), (2, .int (nI n)), (0, .ref (ad 0)), (1, .int x)]) hx hb dX8_bestFree_63 hl (by decide) rfl (fun ls hl => ?_)
                refine lv_iload hx hb dX8_bestFree_65 (lv_at hl 0 rfl) ?_
                refine lv_iload_n hx hb dX8_bestFree_67 rfl (lv_at hl 2 rfl) ?_
                refine lv_icmp_lt (tgt := 96) hx hb dX8_bestFree_68 (by decide) (fun c_11 => ?_) (fun c_11 => ?_)
                · skip
                  refine lv_iconst (v := 1) hx hb dX8_bestFree_96 (by decide) ?_
                  refine lv_goto (tgt := 101) hx hb dX8_bestFree_97 (by decide) ?_
                  refine lv_istore (lv' := [(6, .int 1), (5, .int (nev (evO (lf l_) A).1)), (4, .int 1), (3, .int Z.1), (2, .int (nI n)), (0, .ref (ad 0)), (1, .int x)]) hx hb dX8_bestFree_101 hl (by decide) rfl (fun ls hl => ?_)
                  refine lv_iload hx hb dX8_bestFree_103 (lv_at hl 0 rfl) ?_
                  refine lv_if_eq (tgt := 148) hx hb dX8_bestFree_105 (by decide) (fun c_12 => ?_) (fun c_12 => ?_)
                  · skip
                    exact absurd c_12 (by decide)
                  · skip
                    refine lv_iload hx hb dX8_bestFree_108 (lv_at hl 1 rfl) ?_
                    refine lv_istore_n (lv' := [(3, .int (nev (evO (lf l_) A).1)), (6, .int 1), (5, .int (nev (evO (lf l_) A).1)), (4, .int 1), (2, .int (nI n)), (0, .ref (ad 0)), (1, .int x)]) hx hb dX8_bestFree_110 rfl hl (by decide) rfl (fun ls hl => ?_)
                    refine lv_aload_n hx hb dX8_bestFree_111 rfl (lv_at hl 5 rfl) ?_
                    refine lv_aload_n hx hb dX8_bestFree_112 rfl (lv_at hl 5 rfl) ?_
                    refine mg_get hx hb hts in_X8 hown hE hP 0 (yl_n hA (by decide)) rfl rfl 19 rfl (by decide) (hts _ q783) (fun _ h9 => h9) dX8_bestFree_113 ?_
                    refine lv_rwi (hpd) ?_
                    refine mg_put (v := (evO (lf l_) A).2) (ty := .int) hx hb hts in_X8 tyX8 tyX8_ok nmX8 hown hE hD hP hS 0 (yl_n hA (by decide)) rfl rfl 20 rfl (by decide) (hts _ q784) (fun _ h9 => h9) rfl (by decide +kernel) rfl rfl dX8_bestFree_116 (fun H locs hP hS => ?_)
                    refine lv_iconst (v := 0) hx hb dX8_bestFree_119 (by decide) ?_
                    refine lv_istore (lv' := [(7, .int 0), (3, .int (nev (evO (lf l_) A).1)), (6, .int 1), (5, .int (nev (evO (lf l_) A).1)), (4, .int 1), (2, .int (nI n)), (0, .ref (ad 0)), (1, .int x)]) hx hb dX8_bestFree_120 hl (by decide) rfl (fun ls hl => ?_)
                    have lp122 : ∀ (fu : Nat) (kk : Nat) (_ : kk ≤ n) (_ : n - kk < fu) (H : Heap) (locs : List Loc) (_ : va_P D xCl (mW dA (shM 2) ad N (boF (mup ur_10.1 0 20 ((evO (lf l_) A).2)) kk)) H) (_ : va_S (mAd ad N) ss.heap H locs) (ls : Array Slot) (_ : lv_has ls 8 [(7, .int (nI kk)), (3, .int (nev (evO (lf l_) A).1)), (6, .int 1), (5, .int (nev (evO (lf l_) A).1)), (4, .int 1), (2, .int (nI n)), (0, .ref (ad 0)), (1, .int x)]), W pp l ee (headSpec (ws_ yX8_bestFree cX8_bestFree 8 (some .int)) ({ frames := 3, cells := 0, slots := 0, locals := 73 })).room ss mm ([.ref (ad 0), .int x] : List Value).toArray below meth cd H locs 0 0 (MQ below (va_Qi (fun (r : Int32) (u : mMem × Nat) => r = (bestY A ru).1 ∧ ((bestY A ru).1 < 361 → u.1 0 20 = (bestY A ru).2.1 ∧ ∀ k, k < n → u.1 11 k = nI ((bestY A ru).2.2 k)) ∧ kpB σ u.1 ∧ (u.2 = 1 ∨ u.2 = 2)) (mBM D dA ad N) (mAd ad N)) ([.ref (ad 0), .int x] : List Value).toArray ss 0 0 (mAd ad N)) (F0 mm 122 ls []) := by
                      intro fu
                      induction fu with
                      | zero => intro kk hkk hfu; exact absurd hfu (Nat.not_lt_zero _)
                      | succ fu ih122 =>
                        intro kk hkk hfu H locs hP hS ls hl
                        refine lv_iload hx hb dX8_bestFree_122 (lv_at hl 0 rfl) ?_
                        refine lv_iload_n hx hb dX8_bestFree_124 rfl (lv_at hl 5 rfl) ?_
                        refine lv_icmp_ge (tgt := 148) hx hb dX8_bestFree_125 (by decide) (fun c_13 => ?_) (fun c_13 => ?_)
                        · have nc_13 : n ≤ kk := mi_le rfl rfl (by omega) (by omega) c_13
                          have hst : stM A ru n Z l_ = ((nev (evO (lf l_) A).1), (evO (lf l_) A).2, lf l_) := by unfold stM ownM; rw [if_pos c_4]; exact if_pos (Or.inl c_11)
                          have hle2 : nev (evO (lf l_) A).1 ≤ 361 := Int32.le_trans (Int32.le_of_lt c_11) hle
                          have hkn : kk = n := by omega
                          have hzr2 := zr_bo (n := n) (m := kk) (Z1 := nev (evO (lf l_) A).1) (v := (evO (lf l_) A).2) hlo hkp (show kk = n by omega)
                          have hke2 := kpB_bo (kk := kk) (kpB_20 (v := (evO (lf l_) A).2) (kpB_M hke hkp))
                          have hlo2 := lo_bo (kk := kk) (v := (evO (lf l_) A).2) (lo_M hlo hkp)
                          refine lv_aload_n hx hb dX8_bestFree_148 rfl (lv_at hl 6 rfl) ?_
                          refine lv_iload_n hx hb dX8_bestFree_149 rfl (lv_at hl 5 rfl) ?_
                          refine va_calli (va_runV (As := [.int (nI n)]) (rest := []) ⟨hx, hb, hml, hown, hts⟩ (mt_X8_turns l D dA 2 (Or.inr rfl) ad N hA (boF (mup ur_10.1 0 20 ((evO (lf l_) A).2)) kk) (nI n) n rfl hn6 (lf l_) hlo2) (cwV 1 hts (lw_V q1028 q1030 qs40 q55 q1031) rfl rfl rfl (by decide +kernel) ⟨Nat.le_of_ble_eq_true rfl, Nat.le_of_ble_eq_true rfl⟩) ⟨mPre.blind, m_recv hE hP 0 (yl_n hA (by decide)) rfl rfl, mPre.at hE hP⟩ rfl rfl hl.1 rfl (lv_room (Nat.le_of_ble_eq_true rfl)) dX8_bestFree_150 ⟨Nat.le_of_ble_eq_true rfl, Nat.le_of_ble_eq_true rfl⟩) hS (fun q _ h => h) (fun q h => h) (fun r_14 ur_14 tr_14 H locs ht h0 hr_14 hB h1 h2 hS => ?_)
                          rcases hr_14 with ⟨htn, rfl, hu⟩ | ⟨q, htn, rfl, hqm, hqk⟩
                          · have hP := m_eq hu (mB.get ht hB)
                            refine lv_istore (lv' := [(4, .int 0), (7, .int (nI kk)), (3, .int (nev (evO (lf l_) A).1)), (6, .int 1), (5, .int (nev (evO (lf l_) A).1)), (2, .int (nI n)), (0, .ref (ad 0)), (1, .int x)]) hx hb dX8_bestFree_153 hl (by decide) rfl (fun ls hl => ?_)
                            refine lv_goto (tgt := 38) hx hb dX8_bestFree_155 (by decide) ?_
                            refine lv_iload hx hb dX8_bestFree_38 (lv_at hl 0 rfl) ?_
                            refine lv_if_eq (tgt := 158) hx hb dX8_bestFree_40 (by decide) (fun c_15 => ?_) (fun c_15 => ?_)
                            · skip
                              refine lv_iload_n hx hb dX8_bestFree_158 rfl (lv_at hl 2 rfl) ?_
                              exact W.iret (v := (nev (evO (lf l_) A).1)) hx hb hr (fun t ht hW => ⟨⟨_, ((boF (mup ur_10.1 0 20 ((evO (lf l_) A).2)) kk), 2), rfl, ⟨by rw [hfo, seqT_e (next_none htn), List.foldl_cons, List.foldl_nil, hst], by rw [hfo, seqT_e (next_none htn), List.foldl_cons, List.foldl_nil, hst]; exact hzr2, hke2, (Or.inr rfl)⟩, mBM.of ht hP⟩, hS.F ht⟩) hS.2.2 dX8_bestFree_159
                            · skip
                              exact absurd c_15 (by decide)
                          · have hP := mB.get ht hB
                            have hfp := fu_pos hen (next_some htn)
                            refine lv_istore (lv' := [(4, .int 1), (7, .int (nI kk)), (3, .int (nev (evO (lf l_) A).1)), (6, .int 1), (5, .int (nev (evO (lf l_) A).1)), (2, .int (nI n)), (0, .ref (ad 0)), (1, .int x)]) hx hb dX8_bestFree_153 hl (by decide) rfl (fun ls hl => ?_)
                            refine lv_goto (tgt := 38) hx hb dX8_bestFree_155 (by decide) ?_
                            exact ih38  ((List.range n).map q) ((nev (evO (lf l_) A).1), (evO (lf l_) A).2, lf l_) (fu2 - 1) 2 ur_14 (Or.inr rfl) (lo_map hqm) hle2 (zr_k hzr2 hqk) (kpB_k hke2 hqk) (by rw [hfo, seqT_s (next_some htn) (fu_pos hen (next_some htn)), List.foldl_cons, hst]) (endT_s (next_some htn) (fu_pos hen (next_some htn)) hen) (fun w hw => hgo w (by rw [seqT_s (next_some htn) (fu_pos hen (next_some htn))]; exact List.mem_cons_of_mem _ hw)) (by omega) _ _ hP hS ls (lv_sub hl [0, 2, 5, 6, 7] rfl)
                        · have nc_13 : kk < n := mi_nle rfl rfl (by omega) (by omega) c_13
                          refine lv_aload_n hx hb dX8_bestFree_128 rfl (lv_at hl 6 rfl) ?_
                          refine mg_ref hx hb hts in_X8 hown hE hP 0 (yl_n hA (by decide)) rfl rfl 18 rfl (by decide) (hts _ q782) (fun _ h9 => h9) dX8_bestFree_129 ?_
                          refine lv_iload hx hb dX8_bestFree_132 (lv_at hl 0 rfl) ?_
                          refine lv_aload_n hx hb dX8_bestFree_134 rfl (lv_at hl 6 rfl) ?_
                          refine mg_ref hx hb hts in_X8 hown hE hP 0 (yl_n hA (by decide)) rfl rfl 17 rfl (by decide) (hts _ q781) (fun _ h9 => h9) dX8_bestFree_135 ?_
                          refine lv_iload hx hb dX8_bestFree_138 (lv_at hl 0 rfl) ?_
                          refine mg_ild hx hb hE hP 10 (yl_n hA (by decide)) rfl kk (by omega) rfl (by decide) dX8_bestFree_140 ?_
                          refine mg_ist (v := (boF (mup ur_10.1 0 20 ((evO (lf l_) A).2)) kk) 10 kk) hx hb hE hD hP hS 11 (yl_n hA (by decide)) rfl kk (by omega) rfl (by decide) dX8_bestFree_141 (fun H locs hP hS => ?_)
                          refine lv_iinc (v := (nI (kk + 1))) (lv' := [(7, .int (nI (kk + 1))), (3, .int (nev (evO (lf l_) A).1)), (6, .int 1), (5, .int (nev (evO (lf l_) A).1)), (4, .int 1), (2, .int (nI n)), (0, .ref (ad 0)), (1, .int x)]) hx hb dX8_bestFree_142 hl (k := 0) rfl (mi_add rfl rfl) (by decide) rfl (fun ls hl => ?_)
                          refine lv_goto (tgt := 122) hx hb dX8_bestFree_145 (by decide) ?_
                          exact ih122  (kk + 1) (by omega) (by omega) _ _ (m_eq (rfl) hP) hS ls (lv_sub hl [0, 1, 2, 3, 4, 5, 6, 7] rfl)
                    exact lp122 (n - 0 + 1) 0 (by omega) (by omega) _ _ (m_eq (rfl) hP) hS ls (lv_sub hl [0, 1, 2, 3, 4, 5, 6, 7] rfl)
                · skip
                  refine lv_iload hx hb dX8_bestFree_71 (lv_at hl 0 rfl) ?_
                  refine lv_sipush (v := 361) hx hb dX8_bestFree_73 (by decide) ?_
                  refine lv_icmp_ge (tgt := 100) hx hb dX8_bestFree_76 (by decide) (fun c_16 => ?_) (fun c_16 => ?_)
                  · skip
                    refine lv_iconst (v := 0) hx hb dX8_bestFree_100 (by decide) ?_
                    refine lv_istore (lv' := [(6, .int 0), (5, .int (nev (evO (lf l_) A).1)), (4, .int 1), (3, .int Z.1), (2, .int (nI n)), (0, .ref (ad 0)), (1, .int x)]) hx hb dX8_bestFree_101 hl (by decide) rfl (fun ls hl => ?_)
                    refine lv_iload hx hb dX8_bestFree_103 (lv_at hl 0 rfl) ?_
                    refine lv_if_eq (tgt := 148) hx hb dX8_bestFree_105 (by decide) (fun c_17 => ?_) (fun c_17 => ?_)
                    · skip
                      have hst : stM A ru n Z l_ = Z := by unfold stM ownM; rw [if_pos c_4]; exact if_neg (fun q => q.elim c_11 (fun z => absurd z.1 (Int32.not_lt.mpr c_16)))
                      have hzr2 := zr_M hzr hkp
                      have hke2 := kpB_M hke hkp
                      have hlo2 := lo_M hlo hkp
                      refine lv_aload_n hx hb dX8_bestFree_148 rfl (lv_at hl 5 rfl) ?_
                      refine lv_iload_n hx hb dX8_bestFree_149 rfl (lv_at hl 4 rfl) ?_
                      refine va_calli (va_runV (As := [.int (nI n)]) (rest := []) ⟨hx, hb, hml, hown, hts⟩ (mt_X8_turns l D dA 2 (Or.inr rfl) ad N hA ur_10.1 (nI n) n rfl hn6 (lf l_) hlo2) (cwV 1 hts (lw_V q1028 q1030 qs40 q55 q1031) rfl rfl rfl (by decide +kernel) ⟨Nat.le_of_ble_eq_true rfl, Nat.le_of_ble_eq_true rfl⟩) ⟨mPre.blind, m_recv hE hP 0 (yl_n hA (by decide)) rfl rfl, mPre.at hE hP⟩ rfl rfl hl.1 rfl (lv_room (Nat.le_of_ble_eq_true rfl)) dX8_bestFree_150 ⟨Nat.le_of_ble_eq_true rfl, Nat.le_of_ble_eq_true rfl⟩) hS (fun q _ h => h) (fun q h => h) (fun r_18 ur_18 tr_18 H locs ht h0 hr_18 hB h1 h2 hS => ?_)
                      rcases hr_18 with ⟨htn, rfl, hu⟩ | ⟨q, htn, rfl, hqm, hqk⟩
                      · have hP := m_eq hu (mB.get ht hB)
                        refine lv_istore (lv' := [(4, .int 0), (6, .int 0), (5, .int (nev (evO (lf l_) A).1)), (3, .int Z.1), (2, .int (nI n)), (0, .ref (ad 0)), (1, .int x)]) hx hb dX8_bestFree_153 hl (by decide) rfl (fun ls hl => ?_)
                        refine lv_goto (tgt := 38) hx hb dX8_bestFree_155 (by decide) ?_
                        refine lv_iload hx hb dX8_bestFree_38 (lv_at hl 0 rfl) ?_
                        refine lv_if_eq (tgt := 158) hx hb dX8_bestFree_40 (by decide) (fun c_19 => ?_) (fun c_19 => ?_)
                        · skip
                          refine lv_iload_n hx hb dX8_bestFree_158 rfl (lv_at hl 3 rfl) ?_
                          exact W.iret (v := Z.1) hx hb hr (fun t ht hW => ⟨⟨_, (ur_10.1, 2), rfl, ⟨by rw [hfo, seqT_e (next_none htn), List.foldl_cons, List.foldl_nil, hst], by rw [hfo, seqT_e (next_none htn), List.foldl_cons, List.foldl_nil, hst]; exact hzr2, hke2, (Or.inr rfl)⟩, mBM.of ht hP⟩, hS.F ht⟩) hS.2.2 dX8_bestFree_159
                        · skip
                          exact absurd c_19 (by decide)
                      · have hP := mB.get ht hB
                        have hfp := fu_pos hen (next_some htn)
                        refine lv_istore (lv' := [(4, .int 1), (6, .int 0), (5, .int (nev (evO (lf l_) A).1)), (3, .int Z.1), (2, .int (nI n)), (0, .ref (ad 0)), (1, .int x)]) hx hb dX8_bestFree_153 hl (by decide) rfl (fun ls hl => ?_)
                        refine lv_goto (tgt := 38) hx hb dX8_bestFree_155 (by decide) ?_
                        exact ih38  ((List.range n).map q) Z (fu2 - 1) 2 ur_18 (Or.inr rfl) (lo_map hqm) hle (zr_k hzr2 hqk) (kpB_k hke2 hqk) (by rw [hfo, seqT_s (next_some htn) (fu_pos hen (next_some htn)), List.foldl_cons, hst]) (endT_s (next_some htn) (fu_pos hen (next_some htn)) hen) (fun w hw => hgo w (by rw [seqT_s (next_some htn) (fu_pos hen (next_some htn))]; exact List.mem_cons_of_mem _ hw)) (by omega) _ _ hP hS ls (lv_sub hl [0, 3, 4, 5, 6] rfl)
                    · skip
                      exact absurd c_17 (by decide)
                  · skip
                    refine lv_iload hx hb dX8_bestFree_79 (lv_at hl 0 rfl) ?_
                    refine lv_iload_n hx hb dX8_bestFree_81 rfl (lv_at hl 2 rfl) ?_
                    refine lv_icmp_ne (tgt := 100) hx hb dX8_bestFree_82 (by decide) (fun c_20 => ?_) (fun c_20 => ?_)
                    · skip
                      refine lv_iconst (v := 0) hx hb dX8_bestFree_100 (by decide) ?_
                      refine lv_istore (lv' := [(6, .int 0), (5, .int (nev (evO (lf l_) A).1)), (4, .int 1), (3, .int Z.1), (2, .int (nI n)), (0, .ref (ad 0)), (1, .int x)]) hx hb dX8_bestFree_101 hl (by decide) rfl (fun ls hl => ?_)
                      refine lv_iload hx hb dX8_bestFree_103 (lv_at hl 0 rfl) ?_
                      refine lv_if_eq (tgt := 148) hx hb dX8_bestFree_105 (by decide) (fun c_21 => ?_) (fun c_21 => ?_)
                      · skip
                        have hst : stM A ru n Z l_ = Z := by unfold stM ownM; rw [if_pos c_4]; exact if_neg (fun q => q.elim c_11 (fun z => absurd z.2.1 c_20))
                        have hzr2 := zr_M hzr hkp
                        have hke2 := kpB_M hke hkp
                        have hlo2 := lo_M hlo hkp
                        refine lv_aload_n hx hb dX8_bestFree_148 rfl (lv_at hl 5 rfl) ?_
                        refine lv_iload_n hx hb dX8_bestFree_149 rfl (lv_at hl 4 rfl) ?_
                        refine va_calli (va_runV (As := [.int (nI n)]) (rest := []) ⟨hx, hb, hml, hown, hts⟩ (mt_X8_turns l D dA 2 (Or.inr rfl) ad N hA ur_10.1 (nI n) n rfl hn6 (lf l_) hlo2) (cwV 1 hts (lw_V q1028 q1030 qs40 q55 q1031) rfl rfl rfl (by decide +kernel) ⟨Nat.le_of_ble_eq_true rfl, Nat.le_of_ble_eq_true rfl⟩) ⟨mPre.blind, m_recv hE hP 0 (yl_n hA (by decide)) rfl rfl, mPre.at hE hP⟩ rfl rfl hl.1 rfl (lv_room (Nat.le_of_ble_eq_true rfl)) dX8_bestFree_150 ⟨Nat.le_of_ble_eq_true rfl, Nat.le_of_ble_eq_true rfl⟩) hS (fun q _ h => h) (fun q h => h) (fun r_22 ur_22 tr_22 H locs ht h0 hr_22 hB h1 h2 hS => ?_)
                        rcases hr_22 with ⟨htn, rfl, hu⟩ | ⟨q, htn, rfl, hqm, hqk⟩
                        · have hP := m_eq hu (mB.get ht hB)
                          refine lv_istore (lv' := [(4, .int 0), (6, .int 0), (5, .int (nev (evO (lf l_) A).1)), (3, .int Z.1), (2, .int (nI n)), (0, .ref (ad 0)), (1, .int x)]) hx hb dX8_bestFree_153 hl (by decide) rfl (fun ls hl => ?_)
                          refine lv_goto (tgt := 38) hx hb dX8_bestFree_155 (by decide) ?_
                          refine lv_iload hx hb dX8_bestFree_38 (lv_at hl 0 rfl) ?_
                          refine lv_if_eq (tgt := 158) hx hb dX8_bestFree_40 (by decide) (fun c_23 => ?_) (fun c_23 => ?_)
                          · skip
                            refine lv_iload_n hx hb dX8_bestFree_158 rfl (lv_at hl 3 rfl) ?_
                            exact W.iret (v := Z.1) hx hb hr (fun t ht hW => ⟨⟨_, (ur_10.1, 2), rfl, ⟨by rw [hfo, seqT_e (next_none htn), List.foldl_cons, List.foldl_nil, hst], by rw [hfo, seqT_e (next_none htn), List.foldl_cons, List.foldl_nil, hst]; exact hzr2, hke2, (Or.inr rfl)⟩, mBM.of ht hP⟩, hS.F ht⟩) hS.2.2 dX8_bestFree_159
                          · skip
                            exact absurd c_23 (by decide)
                        · have hP := mB.get ht hB
                          have hfp := fu_pos hen (next_some htn)
                          refine lv_istore (lv' := [(4, .int 1), (6, .int 0), (5, .int (nev (evO (lf l_) A).1)), (3, .int Z.1), (2, .int (nI n)), (0, .ref (ad 0)), (1, .int x)]) hx hb dX8_bestFree_153 hl (by decide) rfl (fun ls hl => ?_)
                          refine lv_goto (tgt := 38) hx hb dX8_bestFree_155 (by decide) ?_
                          exact ih38  ((List.range n).map q) Z (fu2 - 1) 2 ur_22 (Or.inr rfl) (lo_map hqm) hle (zr_k hzr2 hqk) (kpB_k hke2 hqk) (by rw [hfo, seqT_s (next_some htn) (fu_pos hen (next_some htn)), List.foldl_cons, hst]) (endT_s (next_some htn) (fu_pos hen (next_some htn)) hen) (fun w hw => hgo w (by rw [seqT_s (next_some htn) (fu_pos hen (next_some htn))]; exact List.mem_cons_of_mem _ hw)) (by omega) _ _ hP hS ls (lv_sub hl [0, 3, 4, 5, 6] rfl)
                      · skip
                        exact absurd c_21 (by decide)
                    · skip
                      refine lv_aload_n hx hb dX8_bestFree_85 rfl (lv_at hl 4 rfl) ?_
                      refine mg_get hx hb hts in_X8 hown hE hP 0 (yl_n hA (by decide)) rfl rfl 19 rfl (by decide) (hts _ q783) (fun _ h9 => h9) dX8_bestFree_86 ?_
                      refine lv_rwi (hpd) ?_
                      refine lv_aload_n hx hb dX8_bestFree_89 rfl (lv_at hl 4 rfl) ?_
                      refine mg_get hx hb hts in_X8 hown hE hP 0 (yl_n hA (by decide)) rfl rfl 20 rfl (by decide) (hts _ q784) (fun _ h9 => h9) dX8_bestFree_90 ?_
                      refine lv_rwi (hkp 0 20 (by decide) (by decide)) ?_
                      refine lv_icmp_ge (tgt := 100) hx hb dX8_bestFree_93 (by decide) (fun c_24 => ?_) (fun c_24 => ?_)
                      · skip
                        refine lv_iconst (v := 0) hx hb dX8_bestFree_100 (by decide) ?_
                        refine lv_istore (lv' := [(6, .int 0), (5, .int (nev (evO (lf l_) A).1)), (4, .int 1), (3, .int Z.1), (2, .int (nI n)), (0, .ref (ad 0)), (1, .int x)]) hx hb dX8_bestFree_101 hl (by decide) rfl (fun ls hl => ?_)
                        refine lv_iload hx hb dX8_bestFree_103 (lv_at hl 0 rfl) ?_
                        refine lv_if_eq (tgt := 148) hx hb dX8_bestFree_105 (by decide) (fun c_25 => ?_) (fun c_25 => ?_)
                        · skip
                          have hst : stM A ru n Z l_ = Z := by unfold stM ownM; rw [if_pos c_4]; exact if_neg (fun q => q.elim c_11 (fun z => absurd z.2.2 (by rw [← (hzr (by rw [← z.2.1]; exact z.1)).1]; exact Int32.not_lt.mpr c_24)))
                          have hzr2 := zr_M hzr hkp
                          have hke2 := kpB_M hke hkp
                          have hlo2 := lo_M hlo hkp
                          refine lv_aload_n hx hb dX8_bestFree_148 rfl (lv_at hl 5 rfl) ?_
                          refine lv_iload_n hx hb dX8_bestFree_149 rfl (lv_at hl 4 rfl) ?_
                          refine va_calli (va_runV (As := [.int (nI n)]) (rest := []) ⟨hx, hb, hml, hown, hts⟩ (mt_X8_turns l D dA 2 (Or.inr rfl) ad N hA ur_10.1 (nI n) n rfl hn6 (lf l_) hlo2) (cwV 1 hts (lw_V q1028 q1030 qs40 q55 q1031) rfl rfl rfl (by decide +kernel) ⟨Nat.le_of_ble_eq_true rfl, Nat.le_of_ble_eq_true rfl⟩) ⟨mPre.blind, m_recv hE hP 0 (yl_n hA (by decide)) rfl rfl, mPre.at hE hP⟩ rfl rfl hl.1 rfl (lv_room (Nat.le_of_ble_eq_true rfl)) dX8_bestFree_150 ⟨Nat.le_of_ble_eq_true rfl, Nat.le_of_ble_eq_true rfl⟩) hS (fun q _ h => h) (fun q h => h) (fun r_26 ur_26 tr_26 H locs ht h0 hr_26 hB h1 h2 hS => ?_)
                          rcases hr_26 with ⟨htn, rfl, hu⟩ | ⟨q, htn, rfl, hqm, hqk⟩
                          · have hP := m_eq hu (mB.get ht hB)
                            refine lv_istore (lv' := [(4, .int 0), (6, .int 0), (5, .int (nev (evO (lf l_) A).1)), (3, .int Z.1), (2, .int (nI n)), (0, .ref (ad 0)), (1, .int x)]) hx hb dX8_bestFree_153 hl (by decide) rfl (fun ls hl => ?_)
                            refine lv_goto (tgt := 38) hx hb dX8_bestFree_155 (by decide) ?_
                            refine lv_iload hx hb dX8_bestFree_38 (lv_at hl 0 rfl) ?_
                            refine lv_if_eq (tgt := 158) hx hb dX8_bestFree_40 (by decide) (fun c_27 => ?_) (fun c_27 => ?_)
                            · skip
                              refine lv_iload_n hx hb dX8_bestFree_158 rfl (lv_at hl 3 rfl) ?_
                              exact W.iret (v := Z.1) hx hb hr (fun t ht hW => ⟨⟨_, (ur_10.1, 2), rfl, ⟨by rw [hfo, seqT_e (next_none htn), List.foldl_cons, List.foldl_nil, hst], by rw [hfo, seqT_e (next_none htn), List.foldl_cons, List.foldl_nil, hst]; exact hzr2, hke2, (Or.inr rfl)⟩, mBM.of ht hP⟩, hS.F ht⟩) hS.2.2 dX8_bestFree_159
                            · skip
                              exact absurd c_27 (by decide)
                          · have hP := mB.get ht hB
                            have hfp := fu_pos hen (next_some htn)
                            refine lv_istore (lv' := [(4, .int 1), (6, .int 0), (5, .int (nev (evO (lf l_) A).1)), (3, .int Z.1), (2, .int (nI n)), (0, .ref (ad 0)), (1, .int x)]) hx hb dX8_bestFree_153 hl (by decide) rfl (fun ls hl => ?_)
                            refine lv_goto (tgt := 38) hx hb dX8_bestFree_155 (by decide) ?_
                            exact ih38  ((List.range n).map q) Z (fu2 - 1) 2 ur_26 (Or.inr rfl) (lo_map hqm) hle (zr_k hzr2 hqk) (kpB_k hke2 hqk) (by rw [hfo, seqT_s (next_some htn) (fu_pos hen (next_some htn)), List.foldl_cons, hst]) (endT_s (next_some htn) (fu_pos hen (next_some htn)) hen) (fun w hw => hgo w (by rw [seqT_s (next_some htn) (fu_pos hen (next_some htn))]; exact List.mem_cons_of_mem _ hw)) (by omega) _ _ hP hS ls (lv_sub hl [0, 3, 4, 5, 6] rfl)
                        · skip
                          exact absurd c_25 (by decide)
                      · skip
                        refine lv_iconst (v := 1) hx hb dX8_bestFree_96 (by decide) ?_
                        refine lv_goto (tgt := 101) hx hb dX8_bestFree_97 (by decide) ?_
                        refine lv_istore (lv' := [(6, .int 1), (5, .int (nev (evO (lf l_) A).1)), (4, .int 1), (3, .int Z.1), (2, .int (nI n)), (0, .ref (ad 0)), (1, .int x)]) hx hb dX8_bestFree_101 hl (by decide) rfl (fun ls hl => ?_)
                        refine lv_iload hx hb dX8_bestFree_103 (lv_at hl 0 rfl) ?_
                        refine lv_if_eq (tgt := 148) hx hb dX8_bestFree_105 (by decide) (fun c_28 => ?_) (fun c_28 => ?_)
                        · skip
                          exact absurd c_28 (by decide)
                        · skip
                          refine lv_iload hx hb dX8_bestFree_108 (lv_at hl 1 rfl) ?_
                          refine lv_istore_n (lv' := [(3, .int (nev (evO (lf l_) A).1)), (6, .int 1), (5, .int (nev (evO (lf l_) A).1)), (4, .int 1), (2, .int (nI n)), (0, .ref (ad 0)), (1, .int x)]) hx hb dX8_bestFree_110 rfl hl (by decide) rfl (fun ls hl => ?_)
                          refine lv_aload_n hx hb dX8_bestFree_111 rfl (lv_at hl 5 rfl) ?_
                          refine lv_aload_n hx hb dX8_bestFree_112 rfl (lv_at hl 5 rfl) ?_
                          refine mg_get hx hb hts in_X8 hown hE hP 0 (yl_n hA (by decide)) rfl rfl 19 rfl (by decide) (hts _ q783) (fun _ h9 => h9) dX8_bestFree_113 ?_
                          refine lv_rwi (hpd) ?_
                          refine mg_put (v := (evO (lf l_) A).2) (ty := .int) hx hb hts in_X8 tyX8 tyX8_ok nmX8 hown hE hD hP hS 0 (yl_n hA (by decide)) rfl rfl 20 rfl (by decide) (hts _ q784) (fun _ h9 => h9) rfl (by decide +kernel) rfl rfl dX8_bestFree_116 (fun H locs hP hS => ?_)
                          refine lv_iconst (v := 0) hx hb dX8_bestFree_119 (by decide) ?_
                          refine lv_istore (lv' := [(7, .int 0), (3, .int (nev (evO (lf l_) A).1)), (6, .int 1), (5, .int (nev (evO (lf l_) A).1)), (4, .int 1), (2, .int (nI n)), (0, .ref (ad 0)), (1, .int x)]) hx hb dX8_bestFree_120 hl (by decide) rfl (fun ls hl => ?_)
                          have lp122 : ∀ (fu : Nat) (kk : Nat) (_ : kk ≤ n) (_ : n - kk < fu) (H : Heap) (locs : List Loc) (_ : va_P D xCl (mW dA (shM 2) ad N (boF (mup ur_10.1 0 20 ((evO (lf l_) A).2)) kk)) H) (_ : va_S (mAd ad N) ss.heap H locs) (ls : Array Slot) (_ : lv_has ls 8 [(7, .int (nI kk)), (3, .int (nev (evO (lf l_) A).1)), (6, .int 1), (5, .int (nev (evO (lf l_) A).1)), (4, .int 1), (2, .int (nI n)), (0, .ref (ad 0)), (1, .int x)]), W pp l ee (headSpec (ws_ yX8_bestFree cX8_bestFree 8 (some .int)) ({ frames := 3, cells := 0, slots := 0, locals := 73 })).room ss mm ([.ref (ad 0), .int x] : List Value).toArray below meth cd H locs 0 0 (MQ below (va_Qi (fun (r : Int32) (u : mMem × Nat) => r = (bestY A ru).1 ∧ ((bestY A ru).1 < 361 → u.1 0 20 = (bestY A ru).2.1 ∧ ∀ k, k < n → u.1 11 k = nI ((bestY A ru).2.2 k)) ∧ kpB σ u.1 ∧ (u.2 = 1 ∨ u.2 = 2)) (mBM D dA ad N) (mAd ad N)) ([.ref (ad 0), .int x] : List Value).toArray ss 0 0 (mAd ad N)) (F0 mm 122 ls []) := by
                            intro fu
                            induction fu with
                            | zero => intro kk hkk hfu; exact absurd hfu (Nat.not_lt_zero _)
                            | succ fu ih122 =>
                              intro kk hkk hfu H locs hP hS ls hl
                              refine lv_iload hx hb dX8_bestFree_122 (lv_at hl 0 rfl) ?_
                              refine lv_iload_n hx hb dX8_bestFree_124 rfl (lv_at hl 5 rfl) ?_
                              refine lv_icmp_ge (tgt := 148) hx hb dX8_bestFree_125 (by decide) (fun c_29 => ?_) (fun c_29 => ?_)
                              · have nc_29 : n ≤ kk := mi_le rfl rfl (by omega) (by omega) c_29
                                have hst : stM A ru n Z l_ = ((nev (evO (lf l_) A).1), (evO (lf l_) A).2, lf l_) := by unfold stM ownM; rw [if_pos c_4]; exact if_pos (Or.inr ⟨Int32.not_le.mp c_16, c_20, by rw [← (hzr (by rw [← c_20]; exact Int32.not_le.mp c_16)).1]; exact Int32.not_le.mp c_24⟩)
                                have hle2 : nev (evO (lf l_) A).1 ≤ 361 := Int32.le_of_lt (Int32.not_le.mp c_16)
                                have hkn : kk = n := by omega
                                have hzr2 := zr_bo (n := n) (m := kk) (Z1 := nev (evO (lf l_) A).1) (v := (evO (lf l_) A).2) hlo hkp (show kk = n by omega)
                                have hke2 := kpB_bo (kk := kk) (kpB_20 (v := (evO (lf l_) A).2) (kpB_M hke hkp))
                                have hlo2 := lo_bo (kk := kk) (v := (evO (lf l_) A).2) (lo_M hlo hkp)
                                refine lv_aload_n hx hb dX8_bestFree_148 rfl (lv_at hl 6 rfl) ?_
                                refine lv_iload_n hx hb dX8_bestFree_149 rfl (lv_at hl 5 rfl) ?_
                                refine va_calli (va_runV (As := [.int (nI n)]) (rest := []) ⟨hx, hb, hml, hown, hts⟩ (mt_X8_turns l D dA 2 (Or.inr rfl) ad N hA (boF (mup ur_10.1 0 20 ((evO (lf l_) A).2)) kk) (nI n) n rfl hn6 (lf l_) hlo2) (cwV 1 hts (lw_V q1028 q1030 qs40 q55 q1031) rfl rfl rfl (by decide +kernel) ⟨Nat.le_of_ble_eq_true rfl, Nat.le_of_ble_eq_true rfl⟩) ⟨mPre.blind, m_recv hE hP 0 (yl_n hA (by decide)) rfl rfl, mPre.at hE hP⟩ rfl rfl hl.1 rfl (lv_room (Nat.le_of_ble_eq_true rfl)) dX8_bestFree_150 ⟨Nat.le_of_ble_eq_true rfl, Nat.le_of_ble_eq_true rfl⟩) hS (fun q _ h => h) (fun q h => h) (fun r_30 ur_30 tr_30 H locs ht h0 hr_30 hB h1 h2 hS => ?_)
                                rcases hr_30 with ⟨htn, rfl, hu⟩ | ⟨q, htn, rfl, hqm, hqk⟩
                                · have hP := m_eq hu (mB.get ht hB)
                                  refine lv_istore (lv' := [(4, .int 0), (7, .int (nI kk)), (3, .int (nev (evO (lf l_) A).1)), (6, .int 1), (5, .int (nev (evO (lf l_) A).1)), (2, .int (nI n)), (0, .ref (ad 0)), (1, .int x)]) hx hb dX8_bestFree_153 hl (by decide) rfl (fun ls hl => ?_)
                                  refine lv_goto (tgt := 38) hx hb dX8_bestFree_155 (by decide) ?_
                                  refine lv_iload hx hb dX8_bestFree_38 (lv_at hl 0 rfl) ?_
                                  refine lv_if_eq (tgt := 158) hx hb dX8_bestFree_40 (by decide) (fun c_31 => ?_) (fun c_31 => ?_)
                                  · skip
                                    refine lv_iload_n hx hb dX8_bestFree_158 rfl (lv_at hl 2 rfl) ?_
                                    exact W.iret (v := (nev (evO (lf l_) A).1)) hx hb hr (fun t ht hW => ⟨⟨_, ((boF (mup ur_10.1 0 20 ((evO (lf l_) A).2)) kk), 2), rfl, ⟨by rw [hfo, seqT_e (next_none htn), List.foldl_cons, List.foldl_nil, hst], by rw [hfo, seqT_e (next_none htn), List.foldl_cons, List.foldl_nil, hst]; exact hzr2, hke2, (Or.inr rfl)⟩, mBM.of ht hP⟩, hS.F ht⟩) hS.2.2 dX8_bestFree_159
                                  · skip
                                    exact absurd c_31 (by decide)
                                · have hP := mB.get ht hB
                                  have hfp := fu_pos hen (next_some htn)
                                  refine lv_istore (lv' := [(4, .int 1), (7, .int (nI kk)), (3, .int (nev (evO (lf l_) A).1)), (6, .int 1), (5, .int (nev (evO (lf l_) A).1)), (2, .int (nI n)), (0, .ref (ad 0)), (1, .int x)]) hx hb dX8_bestFree_153 hl (by decide) rfl (fun ls hl => ?_)
                                  refine lv_goto (tgt := 38) hx hb dX8_bestFree_155 (by decide) ?_
                                  exact ih38  ((List.range n).map q) ((nev (evO (lf l_) A).1), (evO (lf l_) A).2, lf l_) (fu2 - 1) 2 ur_30 (Or.inr rfl) (lo_map hqm) hle2 (zr_k hzr2 hqk) (kpB_k hke2 hqk) (by rw [hfo, seqT_s (next_some htn) (fu_pos hen (next_some htn)), List.foldl_cons, hst]) (endT_s (next_some htn) (fu_pos hen (next_some htn)) hen) (fun w hw => hgo w (by rw [seqT_s (next_some htn) (fu_pos hen (next_some htn))]; exact List.mem_cons_of_mem _ hw)) (by omega) _ _ hP hS ls (lv_sub hl [0, 2, 5, 6, 7] rfl)
                              · have nc_29 : kk < n := mi_nle rfl rfl (by omega) (by omega) c_29
                                refine lv_aload_n hx hb dX8_bestFree_128 rfl (lv_at hl 6 rfl) ?_
                                refine mg_ref hx hb hts in_X8 hown hE hP 0 (yl_n hA (by decide)) rfl rfl 18 rfl (by decide) (hts _ q782) (fun _ h9 => h9) dX8_bestFree_129 ?_
                                refine lv_iload hx hb dX8_bestFree_132 (lv_at hl 0 rfl) ?_
                                refine lv_aload_n hx hb dX8_bestFree_134 rfl (lv_at hl 6 rfl) ?_
                                refine mg_ref hx hb hts in_X8 hown hE hP 0 (yl_n hA (by decide)) rfl rfl 17 rfl (by decide) (hts _ q781) (fun _ h9 => h9) dX8_bestFree_135 ?_
                                refine lv_iload hx hb dX8_bestFree_138 (lv_at hl 0 rfl) ?_
                                refine mg_ild hx hb hE hP 10 (yl_n hA (by decide)) rfl kk (by omega) rfl (by decide) dX8_bestFree_140 ?_
                                refine mg_ist (v := (boF (mup ur_10.1 0 20 ((evO (lf l_) A).2)) kk) 10 kk) hx hb hE hD hP hS 11 (yl_n hA (by decide)) rfl kk (by omega) rfl (by decide) dX8_bestFree_141 (fun H locs hP hS => ?_)
                                refine lv_iinc (v := (nI (kk + 1))) (lv' := [(7, .int (nI (kk + 1))), (3, .int (nev (evO (lf l_) A).1)), (6, .int 1), (5, .int (nev (evO (lf l_) A).1)), (4, .int 1), (2, .int (nI n)), (0, .ref (ad 0)), (1, .int x)]) hx hb dX8_bestFree_142 hl (k := 0) rfl (mi_add rfl rfl) (by decide) rfl (fun ls hl => ?_)
                                refine lv_goto (tgt := 122) hx hb dX8_bestFree_145 (by decide) ?_
                                exact ih122  (kk + 1) (by omega) (by omega) _ _ (m_eq (rfl) hP) hS ls (lv_sub hl [0, 1, 2, 3, 4, 5, 6, 7] rfl)
                          exact lp122 (n - 0 + 1) 0 (by omega) (by omega) _ _ (m_eq (rfl) hP) hS ls (lv_sub hl [0, 1, 2, 3, 4, 5, 6, 7] rfl)
        exact lp38 (720 + 1) (List.range n) (361, 0, fun _ => 0) 720 st (idF σ k) hst (lo_id (show k = n by omega) hn6) (by decide) (fun q => absurd q (by decide)) kpB_id (by unfold bestY; rw [hn]) (endT_all hn6) (goodM hru3 hn6) (by omega) _ _ hP hS ls (lv_sub hl [0, 1, 2, 3, 4] rfl)
      · have nc_1 : k < n := mi_nle rfl rfl (by omega) (by omega) c_1
        refine lv_aload_n hx hb dX8_bestFree_20 rfl (lv_at hl 3 rfl) ?_
        refine mg_ref hx hb hts in_X8 hown hE hP 0 (yl_n hA (by decide)) rfl rfl 17 rfl (by decide) (hts _ q781) (fun _ h9 => h9) dX8_bestFree_21 ?_
        refine lv_iload hx hb dX8_bestFree_24 (lv_at hl 0 rfl) ?_
        refine lv_iload hx hb dX8_bestFree_26 (lv_at hl 0 rfl) ?_
        refine mg_ist (v := (nI k)) hx hb hE hD hP hS 10 (yl_n hA (by decide)) rfl k (by omega) rfl (by decide) dX8_bestFree_28 (fun H locs hP hS => ?_)
        refine lv_iinc (v := (nI (k + 1))) (lv' := [(4, .int (nI (k + 1))), (3, .int 361), (2, .int (nI n)), (0, .ref (ad 0)), (1, .int x)]) hx hb dX8_bestFree_29 hl (k := 0) rfl (mi_add rfl rfl) (by decide) rfl (fun ls hl => ?_)
        refine lv_goto (tgt := 14) hx hb dX8_bestFree_32 (by decide) ?_
        exact ih14  (k + 1) (by omega) (by omega) _ _ (m_eq (rfl) hP) hS ls (lv_sub hl [0, 1, 2, 3, 4] rfl)
  exact lp14 (n - 0 + 1) 0 (by omega) (by omega) _ _ (m_eq (rfl) hP) hS ls (lv_sub hl [0, 1, 2, 3, 4] rfl)
