def rngM (σ : mMem) (nc : Nat → Nat) (a b : Nat) (c : Int32) : mMem := if c < 0 then gvF (gvF (va_up σ 19 (va_cpy (σ (30 + 3 * a + 2)) (σ 19) (4 * (nc a - 1)) 0 4)) (30 + 3 * b) (4 * (nc b - 1)) 4) (30 + 3 * a) (4 * (nc a - 1)) 4 else gvF (gvF (gvF (va_up σ 19 (va_cpy (σ (30 + 3 * a + 2)) (σ 19) (4 * (nc a - 1)) 0 4)) (30 + 3 * b) (4 * (nc b - 1)) 4) (30 + 3 * tn c) (4 * (nc (tn c) - 1)) 4) (30 + 3 * a) (4 * (nc a - 1)) 4
set_option maxHeartbeats 4000000 in
set_option maxRecDepth 100000 in
theorem mt_X0_ring (l : Launch) (D : va_G) (dA : Nat → ClassId) (rr : Nat → Option Nat) (xs : Nat → mSh) (ad : Nat → Nat) (N : Nat) (hA : xA ad N) (σ : mMem) (a b c : Int32) (np : Nat) (nc : Nat → Nat) (ld : Nat → Nat → Nat) (hF : xF σ np nc ld) : Met l yX0_ring (ws_ yX0_ring cX0_ring 5 (some .int)) ({ frames := 3, cells := 0, slots := 0, locals := 71 }) (va_Pc [.ref (ad 0), .int a, .int b, .int c] (mPre D dA (shX rr xs) ad N σ)) (va_Qi (fun (r : Int32) (u : mMem) => (if ik a np then (if ik b np then (if a = b then (r = -1 ∧ u = σ) else (if c = -1 then (if ik a np ∧ nc (tn a) = 0 then (r = -2 ∧ u = σ) else (if ik b np ∧ nc (tn b) = 0 then (r = -2 ∧ u = σ) else (if ik c np ∧ nc (tn c) = 0 then (r = -2 ∧ u = σ) else (if 0 ≤ savI σ nc ld (tn a) (tn b) c then (r = savI σ nc ld (tn a) (tn b) c ∧ u = rngM σ nc (tn a) (tn b) c) else (r = -4 ∧ u = σ))))) else (if ik c np then (if c = a then (r = -1 ∧ u = σ) else (if c = b then (r = -1 ∧ u = σ) else (if ik a np ∧ nc (tn a) = 0 then (r = -2 ∧ u = σ) else (if ik b np ∧ nc (tn b) = 0 then (r = -2 ∧ u = σ) else (if ik c np ∧ nc (tn c) = 0 then (r = -2 ∧ u = σ) else (if 0 ≤ savI σ nc ld (tn a) (tn b) c then (r = savI σ nc ld (tn a) (tn b) c ∧ u = rngM σ nc (tn a) (tn b) c) else (r = -4 ∧ u = σ))))))) else (r = -1 ∧ u = σ)))) else (r = -1 ∧ u = σ)) else (r = -1 ∧ u = σ))) (mB D dA (shX rr xs) ad N) (mAd ad N)) 0 0 (mAd ad N) := by
  refine Met.ofW (cc := cX0_ring) (maxL := 5) (ret := (some .int)) (by decide) rfl ?_
  intro pp ee ss mm args below meth cd s₁ B hml hv
  obtain ⟨rfl, hP, hE⟩ := hv
  have hx := B.exec
  have hb := B.bytes
  have hr := B.returns
  have hts := atoms_spec (ws := ws_ yX0_ring cX0_ring 5 (some .int)) B.pre
  have hts : ∀ w ∈ lw_all, w.before _ ss = true := fun w h => hts w (List.mem_cons_of_mem _ h)
  have hown : ss.vm.findClass RX0 = some mm.cls := findClass_of_methodNamed B.named
  have hlocks := B.notSynchronized
  have hD := hA.2.self
  have hS : va_S (mAd ad N) ss.heap ss.heap [] := va_S.rf
  have hNN := hA.1
  have hn5 := hF.n5
  have hl := lv_entry ([.ref (ad 0), .int a, .int b, .int c]) (n := 5) (Nat.le_of_ble_eq_true rfl)
  rw [lg_entry_eq]
  generalize (lg_sl ([.ref (ad 0), .int a, .int b, .int c]) ++ List.replicate (5 - (lg_sl ([.ref (ad 0), .int a, .int b, .int c])).length) Slot.unset).toArray = ls at hl ⊢
  have hl : lv_has ls 5 [(0, .ref (ad 0)), (1, .int a), (2, .int b), (3, .int c)] := hl
  refine lv_aload_n hx hb dX0_ring_0 rfl (lv_at hl 0 rfl) ?_
  refine lv_iload_n hx hb dX0_ring_1 rfl (lv_at hl 1 rfl) ?_
  refine vp_callSi (W.runV (As := [.int a]) (rest := []) ⟨hx, hb, hml, hown, hts⟩ (mt_X0_isPerson l D dA rr xs ad N hA σ a np hF.n hF.n5) (cwV 1 hts (lw_V q355 q357 qs2 q45 q358) rfl rfl rfl (by decide +kernel) ⟨Nat.le_of_ble_eq_true rfl, Nat.le_of_ble_eq_true rfl⟩) ⟨mPre.blind, m_recv hE hP 0 (xl_n hA (by decide)) rfl rfl, mPre.at hE hP⟩ rfl rfl hl.1 rfl (lv_room (Nat.le_of_ble_eq_true rfl)) dX0_ring_2 ⟨Nat.le_of_ble_eq_true rfl, Nat.le_of_ble_eq_true rfl⟩) (fun r_1 hr_1 => ?_)
  subst hr_1
  refine lv_if_eq (tgt := 44) hx hb dX0_ring_5 (by decide) (fun c_2 => ?_) (fun c_2 => ?_)
  · have c_2 : ¬ (ik a np) := bi_f c_2
    refine lv_iconst (v := (-1)) hx hb dX0_ring_44 (by decide) ?_
    exact W.iret (v := (-1)) hx hb hr (fun t ht hW => ⟨⟨_, _, rfl, by dsimp only; rw [if_neg c_2]; exact ⟨rfl, rfl⟩, mB.of ht hP⟩, hS.F ht⟩) hS.2.2 dX0_ring_45
  · have c_2 : ik a np := bi_t c_2
    have c_2_lt := ik_lt c_2
    have c_2_m := hF.m c_2_lt
    have c_2_8 := hF.m8 c_2_lt
    refine lv_aload_n hx hb dX0_ring_8 rfl (lv_at hl 0 rfl) ?_
    refine lv_iload_n hx hb dX0_ring_9 rfl (lv_at hl 2 rfl) ?_
    refine vp_callSi (W.runV (As := [.int b]) (rest := []) ⟨hx, hb, hml, hown, hts⟩ (mt_X0_isPerson l D dA rr xs ad N hA σ b np hF.n hF.n5) (cwV 1 hts (lw_V q355 q357 qs2 q45 q358) rfl rfl rfl (by decide +kernel) ⟨Nat.le_of_ble_eq_true rfl, Nat.le_of_ble_eq_true rfl⟩) ⟨mPre.blind, m_recv hE hP 0 (xl_n hA (by decide)) rfl rfl, mPre.at hE hP⟩ rfl rfl hl.1 rfl (lv_room (Nat.le_of_ble_eq_true rfl)) dX0_ring_10 ⟨Nat.le_of_ble_eq_true rfl, Nat.le_of_ble_eq_true rfl⟩) (fun r_3 hr_3 => ?_)
    subst hr_3
    refine lv_if_eq (tgt := 44) hx hb dX0_ring_13 (by decide) (fun c_4 => ?_) (fun c_4 => ?_)
    · have c_4 : ¬ (ik b np) := bi_f c_4
      refine lv_iconst (v := (-1)) hx hb dX0_ring_44 (by decide) ?_
      exact W.iret (v := (-1)) hx hb hr (fun t ht hW => ⟨⟨_, _, rfl, by dsimp only; rw [if_pos c_2, if_neg c_4]; exact ⟨rfl, rfl⟩, mB.of ht hP⟩, hS.F ht⟩) hS.2.2 dX0_ring_45
    · have c_4 : ik b np := bi_t c_4
      have c_4_lt := ik_lt c_4
      have c_4_m := hF.m c_4_lt
      have c_4_8 := hF.m8 c_4_lt
      refine lv_iload_n hx hb dX0_ring_16 rfl (lv_at hl 1 rfl) ?_
      refine lv_iload_n hx hb dX0_ring_17 rfl (lv_at hl 2 rfl) ?_
      refine lv_icmp_eq (tgt := 44) hx hb dX0_ring_18 (by decide) (fun c_5 => ?_) (fun c_5 => ?_)
      · have nc_5 : tn a = tn b := mi_eq (ik_eq c_2) (ik_eq c_4) (by omega) (by omega) c_5
        refine lv_iconst (v := (-1)) hx hb dX0_ring_44 (by decide) ?_
        exact W.iret (v := (-1)) hx hb hr (fun t ht hW => ⟨⟨_, _, rfl, by dsimp only; rw [if_pos c_2, if_pos c_4, if_pos c_5]; exact ⟨rfl, rfl⟩, mB.of ht hP⟩, hS.F ht⟩) hS.2.2 dX0_ring_45
      · have nc_5 : tn a ≠ tn b := mi_ne (ik_eq c_2) (ik_eq c_4) (by omega) (by omega) c_5
        refine lv_iload_n hx hb dX0_ring_21 rfl (lv_at hl 3 rfl) ?_
        refine lv_iconst (v := (-1)) hx hb dX0_ring_22 (by decide) ?_
        refine lv_icmp_eq (tgt := 46) hx hb dX0_ring_23 (by decide) (fun c_6 => ?_) (fun c_6 => ?_)
        · skip
          have hcn : c < 0 := by rw [c_6]; decide
          refine lv_aload_n hx hb dX0_ring_46 rfl (lv_at hl 0 rfl) ?_
          refine lv_iload_n hx hb dX0_ring_47 rfl (lv_at hl 1 rfl) ?_
          refine vp_callSi (W.runV (As := [.int a]) (rest := []) ⟨hx, hb, hml, hown, hts⟩ (mt_X0_isBare l D dA rr xs ad N hA σ a np nc ld hF (Or.inr c_2)) (cwV 1 hts (lw_V q521 q523 qs12 q45 q524) rfl rfl rfl (by decide +kernel) ⟨Nat.le_of_ble_eq_true rfl, Nat.le_of_ble_eq_true rfl⟩) ⟨mPre.blind, m_recv hE hP 0 (xl_n hA (by decide)) rfl rfl, mPre.at hE hP⟩ rfl rfl hl.1 rfl (lv_room (Nat.le_of_ble_eq_true rfl)) dX0_ring_48 ⟨Nat.le_of_ble_eq_true rfl, Nat.le_of_ble_eq_true rfl⟩) (fun r_7 hr_7 => ?_)
          subst hr_7
          refine lv_if_ne (tgt := 70) hx hb dX0_ring_51 (by decide) (fun c_8 => ?_) (fun c_8 => ?_)
          · have c_8 : ik a np ∧ nc (tn a) = 0 := bi_t c_8
            obtain ⟨c_8_0, c_8_1⟩ := id c_8
            have c_8_0_lt := ik_lt c_8_0
            have c_8_0_m := hF.m c_8_0_lt
            have c_8_0_8 := hF.m8 c_8_0_lt
            refine lv_bipush (v := (-2)) hx hb dX0_ring_70 (by decide) ?_
            exact W.iret (v := (-2)) hx hb hr (fun t ht hW => ⟨⟨_, _, rfl, by dsimp only; rw [if_pos c_2, if_pos c_4, if_neg c_5, if_pos c_6, if_pos c_8]; exact ⟨rfl, rfl⟩, mB.of ht hP⟩, hS.F ht⟩) hS.2.2 dX0_ring_72
          · have c_8 : ¬ (ik a np ∧ nc (tn a) = 0) := bi_f c_8
            have pa : 0 < nc (tn a) := Nat.pos_of_ne_zero (fun z => c_8 ⟨c_2, z⟩)
            refine lv_aload_n hx hb dX0_ring_54 rfl (lv_at hl 0 rfl) ?_
            refine lv_iload_n hx hb dX0_ring_55 rfl (lv_at hl 2 rfl) ?_
            refine vp_callSi (W.runV (As := [.int b]) (rest := []) ⟨hx, hb, hml, hown, hts⟩ (mt_X0_isBare l D dA rr xs ad N hA σ b np nc ld hF (Or.inr c_4)) (cwV 1 hts (lw_V q521 q523 qs12 q45 q524) rfl rfl rfl (by decide +kernel) ⟨Nat.le_of_ble_eq_true rfl, Nat.le_of_ble_eq_true rfl⟩) ⟨mPre.blind, m_recv hE hP 0 (xl_n hA (by decide)) rfl rfl, mPre.at hE hP⟩ rfl rfl hl.1 rfl (lv_room (Nat.le_of_ble_eq_true rfl)) dX0_ring_56 ⟨Nat.le_of_ble_eq_true rfl, Nat.le_of_ble_eq_true rfl⟩) (fun r_9 hr_9 => ?_)
            subst hr_9
            refine lv_if_ne (tgt := 70) hx hb dX0_ring_59 (by decide) (fun c_10 => ?_) (fun c_10 => ?_)
            · have c_10 : ik b np ∧ nc (tn b) = 0 := bi_t c_10
              obtain ⟨c_10_0, c_10_1⟩ := id c_10
              have c_10_0_lt := ik_lt c_10_0
              have c_10_0_m := hF.m c_10_0_lt
              have c_10_0_8 := hF.m8 c_10_0_lt
              refine lv_bipush (v := (-2)) hx hb dX0_ring_70 (by decide) ?_
              exact W.iret (v := (-2)) hx hb hr (fun t ht hW => ⟨⟨_, _, rfl, by dsimp only; rw [if_pos c_2, if_pos c_4, if_neg c_5, if_pos c_6, if_neg c_8, if_pos c_10]; exact ⟨rfl, rfl⟩, mB.of ht hP⟩, hS.F ht⟩) hS.2.2 dX0_ring_72
            · have c_10 : ¬ (ik b np ∧ nc (tn b) = 0) := bi_f c_10
              have pb : 0 < nc (tn b) := Nat.pos_of_ne_zero (fun z => c_10 ⟨c_4, z⟩)
              refine lv_aload_n hx hb dX0_ring_62 rfl (lv_at hl 0 rfl) ?_
              refine lv_iload_n hx hb dX0_ring_63 rfl (lv_at hl 3 rfl) ?_
              refine vp_callSi (W.runV (As := [.int c]) (rest := []) ⟨hx, hb, hml, hown, hts⟩ (mt_X0_isBare l D dA rr xs ad N hA σ c np nc ld hF (Or.inl hcn)) (cwV 1 hts (lw_V q521 q523 qs12 q45 q524) rfl rfl rfl (by decide +kernel) ⟨Nat.le_of_ble_eq_true rfl, Nat.le_of_ble_eq_true rfl⟩) ⟨mPre.blind, m_recv hE hP 0 (xl_n hA (by decide)) rfl rfl, mPre.at hE hP⟩ rfl rfl hl.1 rfl (lv_room (Nat.le_of_ble_eq_true rfl)) dX0_ring_64 ⟨Nat.le_of_ble_eq_true rfl, Nat.le_of_ble_eq_true rfl⟩) (fun r_11 hr_11 => ?_)
              subst hr_11
              refine lv_if_eq (tgt := 73) hx hb dX0_ring_67 (by decide) (fun c_12 => ?_) (fun c_12 => ?_)
              · have c_12 : ¬ (ik c np ∧ nc (tn c) = 0) := bi_f c_12
                refine lv_aload_n hx hb dX0_ring_73 rfl (lv_at hl 0 rfl) ?_
                refine lv_iload_n hx hb dX0_ring_74 rfl (lv_at hl 1 rfl) ?_
                refine lv_iload_n hx hb dX0_ring_75 rfl (lv_at hl 2 rfl) ?_
                refine lv_iload_n hx hb dX0_ring_76 rfl (lv_at hl 3 rfl) ?_
                refine vp_callSi (W.runV (As := [.int a, .int b, .int c]) (rest := []) ⟨hx, hb, hml, hown, hts⟩ (mt_X0_savedIn l D dA rr xs ad N hA σ a b c np nc ld hF c_2 c_4 (Or.inl hcn) pa pb (fun k => absurd hcn (by rw [i_lt]; exact Int.not_lt.mpr k.1))) (cwV 3 hts (lw_V q525 q527 qs13 q45 q528) rfl rfl rfl (by decide +kernel) ⟨Nat.le_of_ble_eq_true rfl, Nat.le_of_ble_eq_true rfl⟩) ⟨mPre.blind, m_recv hE hP 0 (xl_n hA (by decide)) rfl rfl, mPre.at hE hP⟩ rfl rfl hl.1 rfl (lv_room (Nat.le_of_ble_eq_true rfl)) dX0_ring_77 ⟨Nat.le_of_ble_eq_true rfl, Nat.le_of_ble_eq_true rfl⟩) (fun r_13 hr_13 => ?_)
                subst hr_13
                refine lv_istore (lv' := [(4, .int (savI σ nc ld (tn a) (tn b) c)), (0, .ref (ad 0)), (1, .int a), (2, .int b), (3, .int c)]) hx hb dX0_ring_80 hl (by decide) rfl (fun ls hl => ?_)
                refine lv_iload hx hb dX0_ring_82 (lv_at hl 0 rfl) ?_
                refine lv_if_ge (tgt := 90) hx hb dX0_ring_84 (by decide) (fun c_14 => ?_) (fun c_14 => ?_)
                · skip
                  refine lv_aload_n hx hb dX0_ring_90 rfl (lv_at hl 1 rfl) ?_
                  refine mg_ref hx hb hts in_X0 hown hE hP 0 (xl_n hA (by decide)) rfl rfl 1 rfl (by decide) (hts _ q265) (fun _ h9 => h9) dX0_ring_91 ?_
                  refine mg_refN hx hb hts in_X4 hown hE hP 1 (xl_n hA (by decide)) rfl rfl 0 rfl (by decide) q145 (fun _ h9 => h9) dX0_ring_94 ?_
                  refine lv_iload_n hx hb dX0_ring_97 rfl (lv_at hl 2 rfl) ?_
                  refine mg_ald hx hb hE hP 4 (xl_n hA (by decide)) rfl rfl (tn a) (by omega) (ik_eq c_2) (by decide) rfl dX0_ring_98 ?_
                  refine mg_refN hx hb hts in_X5 hown hE hP (30 + 3 * (tn a)) (xl_o hA (xw_p0 (p := tn a) (by omega))) (shX_o (xw_p0 (p := tn a) (by omega))) rfl 5 rfl (by decide) q123 (fun _ h9 => h9) dX0_ring_99 ?_
                  refine lv_iconst (v := 4) hx hb dX0_ring_102 (by decide) ?_
                  refine lv_aload_n hx hb dX0_ring_103 rfl (lv_at hl 1 rfl) ?_
                  refine mg_ref hx hb hts in_X0 hown hE hP 0 (xl_n hA (by decide)) rfl rfl 1 rfl (by decide) (hts _ q265) (fun _ h9 => h9) dX0_ring_104 ?_
                  refine mg_refN hx hb hts in_X4 hown hE hP 1 (xl_n hA (by decide)) rfl rfl 0 rfl (by decide) q145 (fun _ h9 => h9) dX0_ring_107 ?_
                  refine lv_iload_n hx hb dX0_ring_110 rfl (lv_at hl 2 rfl) ?_
                  refine mg_ald hx hb hE hP 4 (xl_n hA (by decide)) rfl rfl (tn a) (by omega) (ik_eq c_2) (by decide) rfl dX0_ring_111 ?_
                  refine mg_getN hx hb hts in_X5 hown hE hP (30 + 3 * (tn a)) (xl_o hA (xw_p0 (p := tn a) (by omega))) (shX_o (xw_p0 (p := tn a) (by omega))) rfl 6 rfl (by decide) q127 (fun _ h9 => h9) dX0_ring_112 ?_
                  refine lv_iconst (v := 1) hx hb dX0_ring_115 (by decide) ?_
                  refine lv_isub hx hb dX0_ring_116 ?_
                  refine lv_imul hx hb dX0_ring_117 ?_
                  refine lv_aload_n hx hb dX0_ring_118 rfl (lv_at hl 1 rfl) ?_
                  refine mg_ref hx hb hts in_X0 hown hE hP 0 (xl_n hA (by decide)) rfl rfl 10 rfl (by decide) (hts _ q274) (fun _ h9 => h9) dX0_ring_119 ?_
                  refine lv_iconst (v := 0) hx hb dX0_ring_122 (by decide) ?_
                  refine lv_iconst (v := 4) hx hb dX0_ring_123 (by decide) ?_
                  refine mg_cpy hx hb (by rw [hml]; exact hl.1.symm) hown (hts _ q443) (hts _ q445) (hts _ q444) (hts _ q57) hE hD hP hS (30 + 3 * (tn a) + 2) 19 (xl_c hA (xw_p0 (p := tn a) (by omega))) (xl_n hA (by decide)) (shX_c (xw_p0 (p := tn a) (by omega))) rfl (4 * ((nc (tn a)) - 1)) 0 4 (mi_mul rfl (mi_sub (a := nc (tn a)) (b := 1) c_2_m rfl (by omega))) rfl rfl (by omega) (by omega) (by decide) (by decide) (Nat.le_of_ble_eq_true rfl) (Nat.le_of_ble_eq_true rfl) dX0_ring_124 (fun H locs hP hS => ?_)
                  refine lv_aload_n hx hb dX0_ring_127 rfl (lv_at hl 1 rfl) ?_
                  refine lv_iload_n hx hb dX0_ring_128 rfl (lv_at hl 3 rfl) ?_
                  refine lv_aload_n hx hb dX0_ring_129 rfl (lv_at hl 1 rfl) ?_
                  refine mg_ref hx hb hts in_X0 hown hE hP 0 (xl_n hA (by decide)) rfl rfl 10 rfl (by decide) (hts _ q274) (fun _ h9 => h9) dX0_ring_130 ?_
                  refine va_callv (va_runV (As := [.int b, .ref (ad 19)]) (rest := []) ⟨hx, hb, hml, hown, hts⟩ (mt_X0_giveTo l D dA rr xs ad N hA (va_up σ 19 (va_cpy (σ (30 + 3 * (tn a) + 2)) (σ 19) (4 * ((nc (tn a)) - 1)) 0 4)) b (tn b) (ik_eq c_4) (by omega) (nc (tn b)) ((mv_row (by omega)).trans c_4_m) (by omega) (by omega)) (cwV 2 hts (lw_V q533 q535 qs15 q45 q536) rfl rfl rfl (by decide +kernel) ⟨Nat.le_of_ble_eq_true rfl, Nat.le_of_ble_eq_true rfl⟩) ⟨mPre.blind, m_recv hE hP 0 (xl_n hA (by decide)) rfl rfl, mPre.at hE hP⟩ rfl rfl hl.1 rfl (lv_room (Nat.le_of_ble_eq_true rfl)) dX0_ring_133 ⟨Nat.le_of_ble_eq_true rfl, Nat.le_of_ble_eq_true rfl⟩) hS (fun q _ h => h) (fun q h => h) (fun ur_15 tr_15 H locs ht h0 hr_15 hB h1 h2 hS => ?_)
                  subst hr_15
                  have hP := mB.get ht hB
                  refine lv_iload_n hx hb dX0_ring_136 rfl (lv_at hl 4 rfl) ?_
                  refine lv_if_lt (tgt := 149) hx hb dX0_ring_137 (by decide) (fun c_16 => ?_) (fun c_16 => ?_)
                  · skip
                    refine lv_aload_n hx hb dX0_ring_149 rfl (lv_at hl 1 rfl) ?_
                    refine lv_iload_n hx hb dX0_ring_150 rfl (lv_at hl 2 rfl) ?_
                    refine lv_aload_n hx hb dX0_ring_151 rfl (lv_at hl 1 rfl) ?_
                    refine mg_ref hx hb hts in_X0 hown hE hP 0 (xl_n hA (by decide)) rfl rfl 10 rfl (by decide) (hts _ q274) (fun _ h9 => h9) dX0_ring_152 ?_
                    refine va_callv (va_runV (As := [.int a, .ref (ad 19)]) (rest := []) ⟨hx, hb, hml, hown, hts⟩ (mt_X0_giveTo l D dA rr xs ad N hA (gvF (va_up σ 19 (va_cpy (σ (30 + 3 * (tn a) + 2)) (σ 19) (4 * ((nc (tn a)) - 1)) 0 4)) (30 + 3 * (tn b)) (4 * ((nc (tn b)) - 1)) 4) a (tn a) (ik_eq c_2) (by omega) (nc (tn a)) ((gvF_ne (by omega) (by omega)).trans ((mv_row (by omega)).trans c_2_m)) (by omega) (by omega)) (cwV 2 hts (lw_V q533 q535 qs15 q45 q536) rfl rfl rfl (by decide +kernel) ⟨Nat.le_of_ble_eq_true rfl, Nat.le_of_ble_eq_true rfl⟩) ⟨mPre.blind, m_recv hE hP 0 (xl_n hA (by decide)) rfl rfl, mPre.at hE hP⟩ rfl rfl hl.1 rfl (lv_room (Nat.le_of_ble_eq_true rfl)) dX0_ring_155 ⟨Nat.le_of_ble_eq_true rfl, Nat.le_of_ble_eq_true rfl⟩) hS (fun q _ h => h) (fun q h => h) (fun ur_17 tr_17 H locs ht h0 hr_17 hB h1 h2 hS => ?_)
                    subst hr_17
                    have hP := mB.get ht hB
                    refine lv_iload hx hb dX0_ring_158 (lv_at hl 0 rfl) ?_
                    exact W.iret (v := (savI σ nc ld (tn a) (tn b) c)) hx hb hr (fun t ht hW => ⟨⟨_, _, rfl, by dsimp only; rw [if_pos c_2, if_pos c_4, if_neg c_5, if_pos c_6, if_neg c_8, if_neg c_10, if_neg c_12, if_pos c_14]; exact ⟨rfl, by unfold rngM; rw [if_pos hcn]⟩, mB.of ht hP⟩, hS.F ht⟩) hS.2.2 dX0_ring_160
                  · skip
                    exact absurd hcn c_16
                · skip
                  refine lv_bipush (v := (-4)) hx hb dX0_ring_87 (by decide) ?_
                  exact W.iret (v := (-4)) hx hb hr (fun t ht hW => ⟨⟨_, _, rfl, by dsimp only; rw [if_pos c_2, if_pos c_4, if_neg c_5, if_pos c_6, if_neg c_8, if_neg c_10, if_neg c_12, if_neg c_14]; exact ⟨rfl, rfl⟩, mB.of ht hP⟩, hS.F ht⟩) hS.2.2 dX0_ring_89
              · have c_12 : ik c np ∧ nc (tn c) = 0 := bi_t c_12
                obtain ⟨c_12_0, c_12_1⟩ := id c_12
                have c_12_0_lt := ik_lt c_12_0
                have c_12_0_m := hF.m c_12_0_lt
                have c_12_0_8 := hF.m8 c_12_0_lt
                refine lv_bipush (v := (-2)) hx hb dX0_ring_70 (by decide) ?_
                exact W.iret (v := (-2)) hx hb hr (fun t ht hW => ⟨⟨_, _, rfl, by dsimp only; rw [if_pos c_2, if_pos c_4, if_neg c_5, if_pos c_6, if_neg c_8, if_neg c_10, if_pos c_12]; exact ⟨rfl, rfl⟩, mB.of ht hP⟩, hS.F ht⟩) hS.2.2 dX0_ring_72
        · skip
          refine lv_aload_n hx hb dX0_ring_26 rfl (lv_at hl 0 rfl) ?_
          refine lv_iload_n hx hb dX0_ring_27 rfl (lv_at hl 3 rfl) ?_
          refine vp_callSi (W.runV (As := [.int c]) (rest := []) ⟨hx, hb, hml, hown, hts⟩ (mt_X0_isPerson l D dA rr xs ad N hA σ c np hF.n hF.n5) (cwV 1 hts (lw_V q355 q357 qs2 q45 q358) rfl rfl rfl (by decide +kernel) ⟨Nat.le_of_ble_eq_true rfl, Nat.le_of_ble_eq_true rfl⟩) ⟨mPre.blind, m_recv hE hP 0 (xl_n hA (by decide)) rfl rfl, mPre.at hE hP⟩ rfl rfl hl.1 rfl (lv_room (Nat.le_of_ble_eq_true rfl)) dX0_ring_28 ⟨Nat.le_of_ble_eq_true rfl, Nat.le_of_ble_eq_true rfl⟩) (fun r_18 hr_18 => ?_)
          subst hr_18
          refine lv_if_eq (tgt := 44) hx hb dX0_ring_31 (by decide) (fun c_19 => ?_) (fun c_19 => ?_)
          · have c_19 : ¬ (ik c np) := bi_f c_19
            refine lv_iconst (v := (-1)) hx hb dX0_ring_44 (by decide) ?_
            exact W.iret (v := (-1)) hx hb hr (fun t ht hW => ⟨⟨_, _, rfl, by dsimp only; rw [if_pos c_2, if_pos c_4, if_neg c_5, if_neg c_6, if_neg c_19]; exact ⟨rfl, rfl⟩, mB.of ht hP⟩, hS.F ht⟩) hS.2.2 dX0_ring_45
          · have c_19 : ik c np := bi_t c_19
            have c_19_lt := ik_lt c_19
            have c_19_m := hF.m c_19_lt
            have c_19_8 := hF.m8 c_19_lt
            refine lv_iload_n hx hb dX0_ring_34 rfl (lv_at hl 3 rfl) ?_
            refine lv_iload_n hx hb dX0_ring_35 rfl (lv_at hl 1 rfl) ?_
            refine lv_icmp_eq (tgt := 44) hx hb dX0_ring_36 (by decide) (fun c_20 => ?_) (fun c_20 => ?_)
            · have nc_20 : tn c = tn a := mi_eq (ik_eq c_19) (ik_eq c_2) (by omega) (by omega) c_20
              refine lv_iconst (v := (-1)) hx hb dX0_ring_44 (by decide) ?_
              exact W.iret (v := (-1)) hx hb hr (fun t ht hW => ⟨⟨_, _, rfl, by dsimp only; rw [if_pos c_2, if_pos c_4, if_neg c_5, if_neg c_6, if_pos c_19, if_pos c_20]; exact ⟨rfl, rfl⟩, mB.of ht hP⟩, hS.F ht⟩) hS.2.2 dX0_ring_45
            · have nc_20 : tn c ≠ tn a := mi_ne (ik_eq c_19) (ik_eq c_2) (by omega) (by omega) c_20
              refine lv_iload_n hx hb dX0_ring_39 rfl (lv_at hl 3 rfl) ?_
              refine lv_iload_n hx hb dX0_ring_40 rfl (lv_at hl 2 rfl) ?_
              refine lv_icmp_ne (tgt := 46) hx hb dX0_ring_41 (by decide) (fun c_21 => ?_) (fun c_21 => ?_)
              · have nc_21 : tn c ≠ tn b := mi_ne (ik_eq c_19) (ik_eq c_4) (by omega) (by omega) c_21
                refine lv_aload_n hx hb dX0_ring_46 rfl (lv_at hl 0 rfl) ?_
                refine lv_iload_n hx hb dX0_ring_47 rfl (lv_at hl 1 rfl) ?_
                refine vp_callSi (W.runV (As := [.int a]) (rest := []) ⟨hx, hb, hml, hown, hts⟩ (mt_X0_isBare l D dA rr xs ad N hA σ a np nc ld hF (Or.inr c_2)) (cwV 1 hts (lw_V q521 q523 qs12 q45 q524) rfl rfl rfl (by decide +kernel) ⟨Nat.le_of_ble_eq_true rfl, Nat.le_of_ble_eq_true rfl⟩) ⟨mPre.blind, m_recv hE hP 0 (xl_n hA (by decide)) rfl rfl, mPre.at hE hP⟩ rfl rfl hl.1 rfl (lv_room (Nat.le_of_ble_eq_true rfl)) dX0_ring_48 ⟨Nat.le_of_ble_eq_true rfl, Nat.le_of_ble_eq_true rfl⟩) (fun r_22 hr_22 => ?_)
                subst hr_22
                refine lv_if_ne (tgt := 70) hx hb dX0_ring_51 (by decide) (fun c_23 => ?_) (fun c_23 => ?_)
                · have c_23 : ik a np ∧ nc (tn a) = 0 := bi_t c_23
                  obtain ⟨c_23_0, c_23_1⟩ := id c_23
                  have c_23_0_lt := ik_lt c_23_0
                  have c_23_0_m := hF.m c_23_0_lt
                  have c_23_0_8 := hF.m8 c_23_0_lt
                  refine lv_bipush (v := (-2)) hx hb dX0_ring_70 (by decide) ?_
                  exact W.iret (v := (-2)) hx hb hr (fun t ht hW => ⟨⟨_, _, rfl, by dsimp only; rw [if_pos c_2, if_pos c_4, if_neg c_5, if_neg c_6, if_pos c_19, if_neg c_20, if_neg c_21, if_pos c_23]; exact ⟨rfl, rfl⟩, mB.of ht hP⟩, hS.F ht⟩) hS.2.2 dX0_ring_72
                · have c_23 : ¬ (ik a np ∧ nc (tn a) = 0) := bi_f c_23
                  have pa : 0 < nc (tn a) := Nat.pos_of_ne_zero (fun z => c_23 ⟨c_2, z⟩)
                  refine lv_aload_n hx hb dX0_ring_54 rfl (lv_at hl 0 rfl) ?_
                  refine lv_iload_n hx hb dX0_ring_55 rfl (lv_at hl 2 rfl) ?_
                  refine vp_callSi (W.runV (As := [.int b]) (rest := []) ⟨hx, hb, hml, hown, hts⟩ (mt_X0_isBare l D dA rr xs ad N hA σ b np nc ld hF (Or.inr c_4)) (cwV 1 hts (lw_V q521 q523 qs12 q45 q524) rfl rfl rfl (by decide +kernel) ⟨Nat.le_of_ble_eq_true rfl, Nat.le_of_ble_eq_true rfl⟩) ⟨mPre.blind, m_recv hE hP 0 (xl_n hA (by decide)) rfl rfl, mPre.at hE hP⟩ rfl rfl hl.1 rfl (lv_room (Nat.le_of_ble_eq_true rfl)) dX0_ring_56 ⟨Nat.le_of_ble_eq_true rfl, Nat.le_of_ble_eq_true rfl⟩) (fun r_24 hr_24 => ?_)
                  subst hr_24
                  refine lv_if_ne (tgt := 70) hx hb dX0_ring_59 (by decide) (fun c_25 => ?_) (fun c_25 => ?_)
                  · have c_25 : ik b np ∧ nc (tn b) = 0 := bi_t c_25
                    obtain ⟨c_25_0, c_25_1⟩ := id c_25
                    have c_25_0_lt := ik_lt c_25_0
                    have c_25_0_m := hF.m c_25_0_lt
                    have c_25_0_8 := hF.m8 c_25_0_lt
                    refine lv_bipush (v := (-2)) hx hb dX0_ring_70 (by decide) ?_
                    exact W.iret (v := (-2)) hx hb hr (fun t ht hW => ⟨⟨_, _, rfl, by dsimp only; rw [if_pos c_2, if_pos c_4, if_neg c_5, if_neg c_6, if_pos c_19, if_neg c_20, if_neg c_21, if_neg c_23, if_pos c_25]; exact ⟨rfl, rfl⟩, mB.of ht hP⟩, hS.F ht⟩) hS.2.2 dX0_ring_72
                  · have c_25 : ¬ (ik b np ∧ nc (tn b) = 0) := bi_f c_25
                    have pb : 0 < nc (tn b) := Nat.pos_of_ne_zero (fun z => c_25 ⟨c_4, z⟩)
                    refine lv_aload_n hx hb dX0_ring_62 rfl (lv_at hl 0 rfl) ?_
                    refine lv_iload_n hx hb dX0_ring_63 rfl (lv_at hl 3 rfl) ?_
                    refine vp_callSi (W.runV (As := [.int c]) (rest := []) ⟨hx, hb, hml, hown, hts⟩ (mt_X0_isBare l D dA rr xs ad N hA σ c np nc ld hF (Or.inr c_19)) (cwV 1 hts (lw_V q521 q523 qs12 q45 q524) rfl rfl rfl (by decide +kernel) ⟨Nat.le_of_ble_eq_true rfl, Nat.le_of_ble_eq_true rfl⟩) ⟨mPre.blind, m_recv hE hP 0 (xl_n hA (by decide)) rfl rfl, mPre.at hE hP⟩ rfl rfl hl.1 rfl (lv_room (Nat.le_of_ble_eq_true rfl)) dX0_ring_64 ⟨Nat.le_of_ble_eq_true rfl, Nat.le_of_ble_eq_true rfl⟩) (fun r_26 hr_26 => ?_)
                    subst hr_26
                    refine lv_if_eq (tgt := 73) hx hb dX0_ring_67 (by decide) (fun c_27 => ?_) (fun c_27 => ?_)
                    · have c_27 : ¬ (ik c np ∧ nc (tn c) = 0) := bi_f c_27
                      have pc : 0 < nc (tn c) := Nat.pos_of_ne_zero (fun z => c_27 ⟨c_19, z⟩)
                      refine lv_aload_n hx hb dX0_ring_73 rfl (lv_at hl 0 rfl) ?_
                      refine lv_iload_n hx hb dX0_ring_74 rfl (lv_at hl 1 rfl) ?_
                      refine lv_iload_n hx hb dX0_ring_75 rfl (lv_at hl 2 rfl) ?_
                      refine lv_iload_n hx hb dX0_ring_76 rfl (lv_at hl 3 rfl) ?_
                      refine vp_callSi (W.runV (As := [.int a, .int b, .int c]) (rest := []) ⟨hx, hb, hml, hown, hts⟩ (mt_X0_savedIn l D dA rr xs ad N hA σ a b c np nc ld hF c_2 c_4 (Or.inr c_19) pa pb (fun _ => pc)) (cwV 3 hts (lw_V q525 q527 qs13 q45 q528) rfl rfl rfl (by decide +kernel) ⟨Nat.le_of_ble_eq_true rfl, Nat.le_of_ble_eq_true rfl⟩) ⟨mPre.blind, m_recv hE hP 0 (xl_n hA (by decide)) rfl rfl, mPre.at hE hP⟩ rfl rfl hl.1 rfl (lv_room (Nat.le_of_ble_eq_true rfl)) dX0_ring_77 ⟨Nat.le_of_ble_eq_true rfl, Nat.le_of_ble_eq_true rfl⟩) (fun r_28 hr_28 => ?_)
                      subst hr_28
                      refine lv_istore (lv' := [(4, .int (savI σ nc ld (tn a) (tn b) c)), (0, .ref (ad 0)), (1, .int a), (2, .int b), (3, .int c)]) hx hb dX0_ring_80 hl (by decide) rfl (fun ls hl => ?_)
                      refine lv_iload hx hb dX0_ring_82 (lv_at hl 0 rfl) ?_
                      refine lv_if_ge (tgt := 90) hx hb dX0_ring_84 (by decide) (fun c_29 => ?_) (fun c_29 => ?_)
                      · skip
                        refine lv_aload_n hx hb dX0_ring_90 rfl (lv_at hl 1 rfl) ?_
                        refine mg_ref hx hb hts in_X0 hown hE hP 0 (xl_n hA (by decide)) rfl rfl 1 rfl (by decide) (hts _ q265) (fun _ h9 => h9) dX0_ring_91 ?_
                        refine mg_refN hx hb hts in_X4 hown hE hP 1 (xl_n hA (by decide)) rfl rfl 0 rfl (by decide) q145 (fun _ h9 => h9) dX0_ring_94 ?_
                        refine lv_iload_n hx hb dX0_ring_97 rfl (lv_at hl 2 rfl) ?_
                        refine mg_ald hx hb hE hP 4 (xl_n hA (by decide)) rfl rfl (tn a) (by omega) (ik_eq c_2) (by decide) rfl dX0_ring_98 ?_
                        refine mg_refN hx hb hts in_X5 hown hE hP (30 + 3 * (tn a)) (xl_o hA (xw_p0 (p := tn a) (by omega))) (shX_o (xw_p0 (p := tn a) (by omega))) rfl 5 rfl (by decide) q123 (fun _ h9 => h9) dX0_ring_99 ?_
                        refine lv_iconst (v := 4) hx hb dX0_ring_102 (by decide) ?_
                        refine lv_aload_n hx hb dX0_ring_103 rfl (lv_at hl 1 rfl) ?_
                        refine mg_ref hx hb hts in_X0 hown hE hP 0 (xl_n hA (by decide)) rfl rfl 1 rfl (by decide) (hts _ q265) (fun _ h9 => h9) dX0_ring_104 ?_
                        refine mg_refN hx hb hts in_X4 hown hE hP 1 (xl_n hA (by decide)) rfl rfl 0 rfl (by decide) q145 (fun _ h9 => h9) dX0_ring_107 ?_
                        refine lv_iload_n hx hb dX0_ring_110 rfl (lv_at hl 2 rfl) ?_
                        refine mg_ald hx hb hE hP 4 (xl_n hA (by decide)) rfl rfl (tn a) (by omega) (ik_eq c_2) (by decide) rfl dX0_ring_111 ?_
                        refine mg_getN hx hb hts in_X5 hown hE hP (30 + 3 * (tn a)) (xl_o hA (xw_p0 (p := tn a) (by omega))) (shX_o (xw_p0 (p := tn a) (by omega))) rfl 6 rfl (by decide) q127 (fun _ h9 => h9) dX0_ring_112 ?_
                        refine lv_iconst (v := 1) hx hb dX0_ring_115 (by decide) ?_
                        refine lv_isub hx hb dX0_ring_116 ?_
                        refine lv_imul hx hb dX0_ring_117 ?_
                        refine lv_aload_n hx hb dX0_ring_118 rfl (lv_at hl 1 rfl) ?_
                        refine mg_ref hx hb hts in_X0 hown hE hP 0 (xl_n hA (by decide)) rfl rfl 10 rfl (by decide) (hts _ q274) (fun _ h9 => h9) dX0_ring_119 ?_
                        refine lv_iconst (v := 0) hx hb dX0_ring_122 (by decide) ?_
                        refine lv_iconst (v := 4) hx hb dX0_ring_123 (by decide) ?_
                        refine mg_cpy hx hb (by rw [hml]; exact hl.1.symm) hown (hts _ q443) (hts _ q445) (hts _ q444) (hts _ q57) hE hD hP hS (30 + 3 * (tn a) + 2) 19 (xl_c hA (xw_p0 (p := tn a) (by omega))) (xl_n hA (by decide)) (shX_c (xw_p0 (p := tn a) (by omega))) rfl (4 * ((nc (tn a)) - 1)) 0 4 (mi_mul rfl (mi_sub (a := nc (tn a)) (b := 1) c_2_m rfl (by omega))) rfl rfl (by omega) (by omega) (by decide) (by decide) (Nat.le_of_ble_eq_true rfl) (Nat.le_of_ble_eq_true rfl) dX0_ring_124 (fun H locs hP hS => ?_)
                        refine lv_aload_n hx hb dX0_ring_127 rfl (lv_at hl 1 rfl) ?_
                        refine lv_iload_n hx hb dX0_ring_128 rfl (lv_at hl 3 rfl) ?_
                        refine lv_aload_n hx hb dX0_ring_129 rfl (lv_at hl 1 rfl) ?_
                        refine mg_ref hx hb hts in_X0 hown hE hP 0 (xl_n hA (by decide)) rfl rfl 10 rfl (by decide) (hts _ q274) (fun _ h9 => h9) dX0_ring_130 ?_
                        refine va_callv (va_runV (As := [.int b, .ref (ad 19)]) (rest := []) ⟨hx, hb, hml, hown, hts⟩ (mt_X0_giveTo l D dA rr xs ad N hA (va_up σ 19 (va_cpy (σ (30 + 3 * (tn a) + 2)) (σ 19) (4 * ((nc (tn a)) - 1)) 0 4)) b (tn b) (ik_eq c_4) (by omega) (nc (tn b)) ((mv_row (by omega)).trans c_4_m) (by omega) (by omega)) (cwV 2 hts (lw_V q533 q535 qs15 q45 q536) rfl rfl rfl (by decide +kernel) ⟨Nat.le_of_ble_eq_true rfl, Nat.le_of_ble_eq_true rfl⟩) ⟨mPre.blind, m_recv hE hP 0 (xl_n hA (by decide)) rfl rfl, mPre.at hE hP⟩ rfl rfl hl.1 rfl (lv_room (Nat.le_of_ble_eq_true rfl)) dX0_ring_133 ⟨Nat.le_of_ble_eq_true rfl, Nat.le_of_ble_eq_true rfl⟩) hS (fun q _ h => h) (fun q h => h) (fun ur_30 tr_30 H locs ht h0 hr_30 hB h1 h2 hS => ?_)
                        subst hr_30
                        have hP := mB.get ht hB
                        refine lv_iload_n hx hb dX0_ring_136 rfl (lv_at hl 4 rfl) ?_
                        refine lv_if_lt (tgt := 149) hx hb dX0_ring_137 (by decide) (fun c_31 => ?_) (fun c_31 => ?_)
                        · have nc_31 : tn c < 0 := mi_lt (ik_eq c_19) rfl (by omega) (by omega) c_31
                          exact absurd c_31 (by rw [i_lt]; exact Int.not_lt.mpr c_19.1)
                        · have nc_31 : 0 ≤ tn c := mi_nlt (ik_eq c_19) rfl (by omega) (by omega) c_31
                          refine lv_aload_n hx hb dX0_ring_140 rfl (lv_at hl 1 rfl) ?_
                          refine lv_iload_n hx hb dX0_ring_141 rfl (lv_at hl 4 rfl) ?_
                          refine lv_aload_n hx hb dX0_ring_142 rfl (lv_at hl 1 rfl) ?_
                          refine mg_ref hx hb hts in_X0 hown hE hP 0 (xl_n hA (by decide)) rfl rfl 10 rfl (by decide) (hts _ q274) (fun _ h9 => h9) dX0_ring_143 ?_
                          refine va_callv (va_runV (As := [.int c, .ref (ad 19)]) (rest := []) ⟨hx, hb, hml, hown, hts⟩ (mt_X0_giveTo l D dA rr xs ad N hA (gvF (va_up σ 19 (va_cpy (σ (30 + 3 * (tn a) + 2)) (σ 19) (4 * ((nc (tn a)) - 1)) 0 4)) (30 + 3 * (tn b)) (4 * ((nc (tn b)) - 1)) 4) c (tn c) (ik_eq c_19) (by omega) (nc (tn c)) ((gvF_ne (by omega) (by omega)).trans ((mv_row (by omega)).trans c_19_m)) (by omega) (by omega)) (cwV 2 hts (lw_V q533 q535 qs15 q45 q536) rfl rfl rfl (by decide +kernel) ⟨Nat.le_of_ble_eq_true rfl, Nat.le_of_ble_eq_true rfl⟩) ⟨mPre.blind, m_recv hE hP 0 (xl_n hA (by decide)) rfl rfl, mPre.at hE hP⟩ rfl rfl hl.1 rfl (lv_room (Nat.le_of_ble_eq_true rfl)) dX0_ring_146 ⟨Nat.le_of_ble_eq_true rfl, Nat.le_of_ble_eq_true rfl⟩) hS (fun q _ h => h) (fun q h => h) (fun ur_32 tr_32 H locs ht h0 hr_32 hB h1 h2 hS => ?_)
                          subst hr_32
                          have hP := mB.get ht hB
                          refine lv_aload_n hx hb dX0_ring_149 rfl (lv_at hl 1 rfl) ?_
                          refine lv_iload_n hx hb dX0_ring_150 rfl (lv_at hl 2 rfl) ?_
                          refine lv_aload_n hx hb dX0_ring_151 rfl (lv_at hl 1 rfl) ?_
                          refine mg_ref hx hb hts in_X0 hown hE hP 0 (xl_n hA (by decide)) rfl rfl 10 rfl (by decide) (hts _ q274) (fun _ h9 => h9) dX0_ring_152 ?_
                          refine va_callv (va_runV (As := [.int a, .ref (ad 19)]) (rest := []) ⟨hx, hb, hml, hown, hts⟩ (mt_X0_giveTo l D dA rr xs ad N hA (gvF (gvF (va_up σ 19 (va_cpy (σ (30 + 3 * (tn a) + 2)) (σ 19) (4 * ((nc (tn a)) - 1)) 0 4)) (30 + 3 * (tn b)) (4 * ((nc (tn b)) - 1)) 4) (30 + 3 * (tn c)) (4 * ((nc (tn c)) - 1)) 4) a (tn a) (ik_eq c_2) (by omega) (nc (tn a)) ((gvF_ne (by omega) (by omega)).trans ((gvF_ne (by omega) (by omega)).trans ((mv_row (by omega)).trans c_2_m))) (by omega) (by omega)) (cwV 2 hts (lw_V q533 q535 qs15 q45 q536) rfl rfl rfl (by decide +kernel) ⟨Nat.le_of_ble_eq_true rfl, Nat.le_of_ble_eq_true rfl⟩) ⟨mPre.blind, m_recv hE hP 0 (xl_n hA (by decide)) rfl rfl, mPre.at hE hP⟩ rfl rfl hl.1 rfl (lv_room (Nat.le_of_ble_eq_true rfl)) dX0_ring_155 ⟨Nat.le_of_ble_eq_true rfl, Nat.le_of_ble_eq_true rfl⟩) hS (fun q _ h => h) (fun q h => h) (fun ur_33 tr_33 H locs ht h0 hr_33 hB h1 h2 hS => ?_)
                          subst hr_33
                          have hP := mB.get ht hB
                          refine lv_iload hx hb dX0_ring_158 (lv_at hl 0 rfl) ?_
                          exact W.iret (v := (savI σ nc ld (tn a) (tn b) c)) hx hb hr (fun t ht hW => ⟨⟨_, _, rfl, by dsimp only; rw [if_pos c_2, if_pos c_4, if_neg c_5, if_neg c_6, if_pos c_19, if_neg c_20, if_neg c_21, if_neg c_23, if_neg c_25, if_neg c_27, if_pos c_29]; exact ⟨rfl, by unfold rngM; rw [if_neg c_31]⟩, mB.of ht hP⟩, hS.F ht⟩) hS.2.2 dX0_ring_160
                      · skip
                        refine lv_bipush (v := (-4)) hx hb dX0_ring_87 (by decide) ?_
                        exact W.iret (v := (-4)) hx hb hr (fun t ht hW => ⟨⟨_, _, rfl, by dsimp only; rw [if_pos c_2, if_pos c_4, if_neg c_5, if_neg c_6, if_pos c_19, if_neg c_20, if_neg c_21, if_neg c_23, if_neg c_25, if_neg c_27, if_neg c_29]; exact ⟨rfl, rfl⟩, mB.of ht hP⟩, hS.F ht⟩) hS.2.2 dX0_ring_89
                    · have c_27 : ik c np ∧ nc (tn c) = 0 := bi_t c_27
                      obtain ⟨c_27_0, c_27_1⟩ := id c_27
                      have c_27_0_lt := ik_lt c_27_0
                      have c_27_0_m := hF.m c_27_0_lt
                      have c_27_0_8 := hF.m8 c_27_0_lt
                      refine lv_bipush (v := (-2)) hx hb dX0_ring_70 (by decide) ?_
                      exact W.iret (v := (-2)) hx hb hr (fun t ht hW => ⟨⟨_, _, rfl, by dsimp only; rw [if_pos c_2, if_pos c_4, if_neg c_5, if_neg c_6, if_pos c_19, if_neg c_20, if_neg c_21, if_neg c_23, if_neg c_25, if_pos c_27]; exact ⟨rfl, rfl⟩, mB.of ht hP⟩, hS.F ht⟩) hS.2.2 dX0_ring_72
              · have nc_21 : tn c = tn b := mi_eq (ik_eq c_19) (ik_eq c_4) (by omega) (by omega) c_21
                refine lv_iconst (v := (-1)) hx hb dX0_ring_44 (by decide) ?_
                exact W.iret (v := (-1)) hx hb hr (fun t ht hW => ⟨⟨_, _, rfl, by dsimp only; rw [if_pos c_2, if_pos c_4, if_neg c_5, if_neg c_6, if_pos c_19, if_neg c_20, if_pos c_21]; exact ⟨rfl, rfl⟩, mB.of ht hP⟩, hS.F ht⟩) hS.2.2 dX0_ring_45
