def fmx (S : Nat → Int32) : Nat → Int32 × Int32
  | 0 => (-4, 0)
  | k + 1 => if (fmx S k).2 < S k then (nI k, S k) else fmx S k
def rgS (σ : mMem) (np : Nat) (nc : Nat → Nat) (ld : Nat → Nat → Nat) (k : Nat) : Int32 := if k < 125 then (if k % 5 = 0 ∧ k / 25 % 5 < np ∧ k / 5 % 5 < np ∧ k / 25 % 5 < k / 5 % 5 ∧ 0 < nc (k / 25 % 5) ∧ 0 < nc (k / 5 % 5) then savI σ nc ld (k / 25 % 5) (k / 5 % 5) (-4) else -4) else (if k / 25 % 5 < np ∧ k / 5 % 5 < np ∧ k / 25 % 5 < k / 5 % 5 ∧ k % 5 < np ∧ k / 25 % 5 < k % 5 ∧ k % 5 ≠ k / 5 % 5 ∧ 0 < nc (k / 25 % 5) ∧ 0 < nc (k / 5 % 5) ∧ 0 < nc (k % 5) then savI σ nc ld (k / 25 % 5) (k / 5 % 5) (nI (k % 5)) else -4)
def rgR (b : Int32 × Int32) (i : Int32) : Int32 := if 0 ≤ b.1 then (if 125 ≤ b.1 then (if 0 ≤ i then (if i = 0 then b.1 / 25 - b.1 / 25 / 5 * 5 else if i = 1 then b.1 / 5 - b.1 / 5 / 5 * 5 else b.1 - b.1 / 5 * 5) else b.2) else (if 0 ≤ i then (if i = 0 then b.1 / 25 - b.1 / 25 / 5 * 5 else if i = 1 then b.1 / 5 - b.1 / 5 / 5 * 5 else -4) else b.2)) else -4
set_option maxHeartbeats 4000000 in
set_option maxRecDepth 100000 in
theorem mt_X0_rings (l : Launch) (D : va_G) (dA : Nat → ClassId) (rr : Nat → Option Nat) (xs : Nat → mSh) (ad : Nat → Nat) (N : Nat) (hA : xA ad N) (σ : mMem) (i : Int32) (np : Nat) (nc : Nat → Nat) (ld : Nat → Nat → Nat) (hF : xF σ np nc ld) : Met l yX0_rings (ws_ yX0_rings cX0_rings 10 (some .int)) ({ frames := 3, cells := 0, slots := 0, locals := 71 }) (va_Pc [.ref (ad 0), .int i] (mPre D dA (shX rr xs) ad N σ)) (vp_Si (fun r : Int32 => r = (if iv i (-1) 2 then rgR (fmx (rgS σ np nc ld) 250) i else -1))) 0 0 (fun _ => False) := by
  refine Met.ofW (cc := cX0_rings) (maxL := 10) (ret := (some .int)) (by decide) rfl ?_
  intro pp ee ss mm args below meth cd s₁ B hml hv
  obtain ⟨rfl, hP, hE⟩ := hv
  have hx := B.exec
  have hb := B.bytes
  have hr := B.returns
  have hts := atoms_spec (ws := ws_ yX0_rings cX0_rings 10 (some .int)) B.pre
  have hts : ∀ w ∈ lw_all, w.before _ ss = true := fun w h => hts w (List.mem_cons_of_mem _ h)
  have hown : ss.vm.findClass RX0 = some mm.cls := findClass_of_methodNamed B.named
  have hlocks := B.notSynchronized
  have hNN := hA.1
  have hn5 := hF.n5
  have hl := lv_entry ([.ref (ad 0), .int i]) (n := 10) (Nat.le_of_ble_eq_true rfl)
  rw [lg_entry_eq]
  generalize (lg_sl ([.ref (ad 0), .int i]) ++ List.replicate (10 - (lg_sl ([.ref (ad 0), .int i])).length) Slot.unset).toArray = ls at hl ⊢
  have hl : lv_has ls 10 [(0, .ref (ad 0)), (1, .int i)] := hl
  refine lv_iload_n hx hb dX0_rings_0 rfl (lv_at hl 1 rfl) ?_
  refine lv_iconst (v := (-1)) hx hb dX0_rings_1 (by decide) ?_
  refine lv_iconst (v := 2) hx hb dX0_rings_2 (by decide) ?_
  refine vp_callSi (W.runS (As := [.int i, .int (-1), .int 2]) (rest := []) ⟨hx, hb, hml, hown, hts⟩ (mt_X0_isIn l i (-1) 2) (va_cwS 3 hts (lw_S q344 q345 q45 q346) rfl rfl rfl (by decide +kernel) ⟨Nat.le_of_ble_eq_true rfl, Nat.le_of_ble_eq_true rfl⟩) ⟨fun _ _ _ _ h => h, fun _ _ _ => ⟨rfl, trivial⟩⟩ rfl rfl hl.1 rfl (lv_room (Nat.le_of_ble_eq_true rfl)) dX0_rings_3 ⟨Nat.le_of_ble_eq_true rfl, Nat.le_of_ble_eq_true rfl⟩) (fun r_1 hr_1 => ?_)
  subst hr_1
  refine lv_rwi (bi_c (iv_of rfl rfl)) ?_
  refine lv_if_ne (tgt := 11) hx hb dX0_rings_6 (by decide) (fun c_2 => ?_) (fun c_2 => ?_)
  · have c_2 : iv i (-1) 2 := bi_t c_2
    refine lv_bipush (v := (-4)) hx hb dX0_rings_11 (by decide) ?_
    refine lv_istore_n (lv' := [(2, .int (-4)), (0, .ref (ad 0)), (1, .int i)]) hx hb dX0_rings_13 rfl hl (by decide) rfl (fun ls hl => ?_)
    refine lv_iconst (v := 0) hx hb dX0_rings_14 (by decide) ?_
    refine lv_istore_n (lv' := [(3, .int 0), (2, .int (-4)), (0, .ref (ad 0)), (1, .int i)]) hx hb dX0_rings_15 rfl hl (by decide) rfl (fun ls hl => ?_)
    refine lv_iconst (v := 0) hx hb dX0_rings_16 (by decide) ?_
    refine lv_istore (lv' := [(4, .int 0), (3, .int 0), (2, .int (-4)), (0, .ref (ad 0)), (1, .int i)]) hx hb dX0_rings_17 hl (by decide) rfl (fun ls hl => ?_)
    have lp19 : ∀ (fu : Nat) (k : Nat) (B : Int32) (Mo : Int32) (_ : k ≤ 250) (_ : (B, Mo) = fmx (rgS σ np nc ld) k) (_ : 250 - k < fu) (ls : Array Slot) (_ : lv_has ls 10 [(4, .int (nI k)), (3, .int Mo), (2, .int B), (0, .ref (ad 0)), (1, .int i)]), W pp l ee (headSpec (ws_ yX0_rings cX0_rings 10 (some .int)) ({ frames := 3, cells := 0, slots := 0, locals := 71 })).room ss mm ([.ref (ad 0), .int i] : List Value).toArray below meth cd ss.heap [] 0 0 (MQ below (vp_Si (fun r : Int32 => r = (if iv i (-1) 2 then rgR (fmx (rgS σ np nc ld) 250) i else -1))) ([.ref (ad 0), .int i] : List Value).toArray ss 0 0 (fun _ => False)) (F0 mm 19 ls []) := by
      intro fu
      induction fu with
      | zero => intro k B Mo hk hfm hfu; exact absurd hfu (Nat.not_lt_zero _)
      | succ fu ih19 =>
        intro k B Mo hk hfm hfu ls hl
        refine lv_iload hx hb dX0_rings_19 (lv_at hl 0 rfl) ?_
        refine lv_sipush (v := 250) hx hb dX0_rings_21 (by decide) ?_
        refine lv_icmp_ge (tgt := 201) hx hb dX0_rings_24 (by decide) (fun c_3 => ?_) (fun c_3 => ?_)
        · have nc_3 : 250 ≤ k := mi_le rfl rfl (by omega) (by omega) c_3
          refine lv_iload_n hx hb dX0_rings_201 rfl (lv_at hl 2 rfl) ?_
          refine lv_if_ge (tgt := 208) hx hb dX0_rings_202 (by decide) (fun c_4 => ?_) (fun c_4 => ?_)
          · skip
            refine lv_iload_n hx hb dX0_rings_208 rfl (lv_at hl 2 rfl) ?_
            refine lv_bipush (v := 125) hx hb dX0_rings_209 (by decide) ?_
            refine lv_icmp_ge (tgt := 218) hx hb dX0_rings_211 (by decide) (fun c_5 => ?_) (fun c_5 => ?_)
            · skip
              refine lv_iconst (v := 0) hx hb dX0_rings_218 (by decide) ?_
              refine lv_istore (lv' := [(4, .int 0), (3, .int Mo), (2, .int B), (0, .ref (ad 0)), (1, .int i)]) hx hb dX0_rings_219 hl (by decide) rfl (fun ls hl => ?_)
              refine lv_iload_n hx hb dX0_rings_221 rfl (lv_at hl 4 rfl) ?_
              refine lv_if_ge (tgt := 229) hx hb dX0_rings_222 (by decide) (fun c_6 => ?_) (fun c_6 => ?_)
              · skip
                refine lv_iload_n hx hb dX0_rings_229 rfl (lv_at hl 4 rfl) ?_
                refine lv_if_ne (tgt := 242) hx hb dX0_rings_230 (by decide) (fun c_7 => ?_) (fun c_7 => ?_)
                · skip
                  refine lv_iload_n hx hb dX0_rings_242 rfl (lv_at hl 4 rfl) ?_
                  refine lv_iconst (v := 1) hx hb dX0_rings_243 (by decide) ?_
                  refine lv_icmp_ne (tgt := 255) hx hb dX0_rings_244 (by decide) (fun c_8 => ?_) (fun c_8 => ?_)
                  · skip
                    refine lv_iload hx hb dX0_rings_255 (lv_at hl 0 rfl) ?_
                    refine lv_if_eq (tgt := 265) hx hb dX0_rings_257 (by decide) (fun c_9 => ?_) (fun c_9 => ?_)
                    · skip
                      refine lv_iload_n hx hb dX0_rings_265 rfl (lv_at hl 2 rfl) ?_
                      refine lv_iconst (v := 5) hx hb dX0_rings_266 (by decide) ?_
                      refine lv_irem hx hb dX0_rings_267 (by decide) ?_
                      exact W.iret (v := (B - B / 5 * 5)) hx hb hr (fun t ht hW => ⟨_, rfl, by dsimp only; rw [if_pos c_2, show (250 : Nat) = k by omega, ← hfm]; dsimp only [rgR]; rw [if_pos c_4, if_pos c_5, if_pos c_6, if_neg c_7, if_neg c_8], ht⟩) (fun q hq => by cases hq) dX0_rings_268
                    · skip
                      exact absurd c_9 (by decide)
                  · skip
                    refine lv_iload_n hx hb dX0_rings_247 rfl (lv_at hl 2 rfl) ?_
                    refine lv_iconst (v := 5) hx hb dX0_rings_248 (by decide) ?_
                    refine lv_idiv hx hb dX0_rings_249 (by decide) ?_
                    refine lv_iconst (v := 5) hx hb dX0_rings_250 (by decide) ?_
                    refine lv_irem hx hb dX0_rings_251 (by decide) ?_
                    refine lv_goto (tgt := 268) hx hb dX0_rings_252 (by decide) ?_
                    exact W.iret (v := ((B / 5) - (B / 5) / 5 * 5)) hx hb hr (fun t ht hW => ⟨_, rfl, by dsimp only; rw [if_pos c_2, show (250 : Nat) = k by omega, ← hfm]; dsimp only [rgR]; rw [if_pos c_4, if_pos c_5, if_pos c_6, if_neg c_7, if_pos c_8], ht⟩) (fun q hq => by cases hq) dX0_rings_268
                · skip
                  refine lv_iload_n hx hb dX0_rings_233 rfl (lv_at hl 2 rfl) ?_
                  refine lv_bipush (v := 25) hx hb dX0_rings_234 (by decide) ?_
                  refine lv_idiv hx hb dX0_rings_236 (by decide) ?_
                  refine lv_iconst (v := 5) hx hb dX0_rings_237 (by decide) ?_
                  refine lv_irem hx hb dX0_rings_238 (by decide) ?_
                  refine lv_goto (tgt := 268) hx hb dX0_rings_239 (by decide) ?_
                  exact W.iret (v := ((B / 25) - (B / 25) / 5 * 5)) hx hb hr (fun t ht hW => ⟨_, rfl, by dsimp only; rw [if_pos c_2, show (250 : Nat) = k by omega, ← hfm]; dsimp only [rgR]; rw [if_pos c_4, if_pos c_5, if_pos c_6, if_pos c_7], ht⟩) (fun q hq => by cases hq) dX0_rings_268
              · skip
                refine lv_iload_n hx hb dX0_rings_225 rfl (lv_at hl 1 rfl) ?_
                refine lv_goto (tgt := 268) hx hb dX0_rings_226 (by decide) ?_
                exact W.iret (v := Mo) hx hb hr (fun t ht hW => ⟨_, rfl, by dsimp only; rw [if_pos c_2, show (250 : Nat) = k by omega, ← hfm]; dsimp only [rgR]; rw [if_pos c_4, if_pos c_5, if_neg c_6], ht⟩) (fun q hq => by cases hq) dX0_rings_268
            · skip
              refine lv_iconst (v := 1) hx hb dX0_rings_214 (by decide) ?_
              refine lv_goto (tgt := 219) hx hb dX0_rings_215 (by decide) ?_
              refine lv_istore (lv' := [(4, .int 1), (3, .int Mo), (2, .int B), (0, .ref (ad 0)), (1, .int i)]) hx hb dX0_rings_219 hl (by decide) rfl (fun ls hl => ?_)
              refine lv_iload_n hx hb dX0_rings_221 rfl (lv_at hl 4 rfl) ?_
              refine lv_if_ge (tgt := 229) hx hb dX0_rings_222 (by decide) (fun c_10 => ?_) (fun c_10 => ?_)
              · skip
                refine lv_iload_n hx hb dX0_rings_229 rfl (lv_at hl 4 rfl) ?_
                refine lv_if_ne (tgt := 242) hx hb dX0_rings_230 (by decide) (fun c_11 => ?_) (fun c_11 => ?_)
                · skip
                  refine lv_iload_n hx hb dX0_rings_242 rfl (lv_at hl 4 rfl) ?_
                  refine lv_iconst (v := 1) hx hb dX0_rings_243 (by decide) ?_
                  refine lv_icmp_ne (tgt := 255) hx hb dX0_rings_244 (by decide) (fun c_12 => ?_) (fun c_12 => ?_)
                  · skip
                    refine lv_iload hx hb dX0_rings_255 (lv_at hl 0 rfl) ?_
                    refine lv_if_eq (tgt := 265) hx hb dX0_rings_257 (by decide) (fun c_13 => ?_) (fun c_13 => ?_)
                    · skip
                      exact absurd c_13 (by decide)
                    · skip
                      refine lv_bipush (v := (-4)) hx hb dX0_rings_260 (by decide) ?_
                      refine lv_goto (tgt := 268) hx hb dX0_rings_262 (by decide) ?_
                      exact W.iret (v := (-4)) hx hb hr (fun t ht hW => ⟨_, rfl, by dsimp only; rw [if_pos c_2, show (250 : Nat) = k by omega, ← hfm]; dsimp only [rgR]; rw [if_pos c_4, if_neg c_5, if_pos c_10, if_neg c_11, if_neg c_12], ht⟩) (fun q hq => by cases hq) dX0_rings_268
                  · skip
                    refine lv_iload_n hx hb dX0_rings_247 rfl (lv_at hl 2 rfl) ?_
                    refine lv_iconst (v := 5) hx hb dX0_rings_248 (by decide) ?_
                    refine lv_idiv hx hb dX0_rings_249 (by decide) ?_
                    refine lv_iconst (v := 5) hx hb dX0_rings_250 (by decide) ?_
                    refine lv_irem hx hb dX0_rings_251 (by decide) ?_
                    refine lv_goto (tgt := 268) hx hb dX0_rings_252 (by decide) ?_
                    exact W.iret (v := ((B / 5) - (B / 5) / 5 * 5)) hx hb hr (fun t ht hW => ⟨_, rfl, by dsimp only; rw [if_pos c_2, show (250 : Nat) = k by omega, ← hfm]; dsimp only [rgR]; rw [if_pos c_4, if_neg c_5, if_pos c_10, if_neg c_11, if_pos c_12], ht⟩) (fun q hq => by cases hq) dX0_rings_268
                · skip
                  refine lv_iload_n hx hb dX0_rings_233 rfl (lv_at hl 2 rfl) ?_
                  refine lv_bipush (v := 25) hx hb dX0_rings_234 (by decide) ?_
                  refine lv_idiv hx hb dX0_rings_236 (by decide) ?_
                  refine lv_iconst (v := 5) hx hb dX0_rings_237 (by decide) ?_
                  refine lv_irem hx hb dX0_rings_238 (by decide) ?_
                  refine lv_goto (tgt := 268) hx hb dX0_rings_239 (by decide) ?_
                  exact W.iret (v := ((B / 25) - (B / 25) / 5 * 5)) hx hb hr (fun t ht hW => ⟨_, rfl, by dsimp only; rw [if_pos c_2, show (250 : Nat) = k by omega, ← hfm]; dsimp only [rgR]; rw [if_pos c_4, if_neg c_5, if_pos c_10, if_pos c_11], ht⟩) (fun q hq => by cases hq) dX0_rings_268
              · skip
                refine lv_iload_n hx hb dX0_rings_225 rfl (lv_at hl 1 rfl) ?_
                refine lv_goto (tgt := 268) hx hb dX0_rings_226 (by decide) ?_
                exact W.iret (v := Mo) hx hb hr (fun t ht hW => ⟨_, rfl, by dsimp only; rw [if_pos c_2, show (250 : Nat) = k by omega, ← hfm]; dsimp only [rgR]; rw [if_pos c_4, if_neg c_5, if_neg c_10], ht⟩) (fun q hq => by cases hq) dX0_rings_268
          · skip
            refine lv_bipush (v := (-4)) hx hb dX0_rings_205 (by decide) ?_
            exact W.iret (v := (-4)) hx hb hr (fun t ht hW => ⟨_, rfl, by dsimp only; rw [if_pos c_2, show (250 : Nat) = k by omega, ← hfm]; dsimp only [rgR]; rw [if_neg c_4], ht⟩) (fun q hq => by cases hq) dX0_rings_207
        · have nc_3 : k < 250 := mi_nle rfl rfl (by omega) (by omega) c_3
          refine lv_iload hx hb dX0_rings_27 (lv_at hl 0 rfl) ?_
          refine lv_bipush (v := 25) hx hb dX0_rings_29 (by decide) ?_
          refine lv_idiv hx hb dX0_rings_31 (by decide) ?_
          refine lv_iconst (v := 5) hx hb dX0_rings_32 (by decide) ?_
          refine lv_irem hx hb dX0_rings_33 (by decide) ?_
          refine lv_rwi (mi_rem (a := k / 25) (b := 5) (mi_div (a := k) (b := 25) rfl rfl (by omega) (by omega) (by omega)) rfl (by omega) (by omega) (by omega)) ?_
          refine lv_istore (lv' := [(5, .int (nI ((k / 25) % 5))), (4, .int (nI k)), (3, .int Mo), (2, .int B), (0, .ref (ad 0)), (1, .int i)]) hx hb dX0_rings_34 hl (by decide) rfl (fun ls hl => ?_)
          refine lv_iload hx hb dX0_rings_36 (lv_at hl 1 rfl) ?_
          refine lv_iconst (v := 5) hx hb dX0_rings_38 (by decide) ?_
          refine lv_idiv hx hb dX0_rings_39 (by decide) ?_
          refine lv_iconst (v := 5) hx hb dX0_rings_40 (by decide) ?_
          refine lv_irem hx hb dX0_rings_41 (by decide) ?_
          refine lv_rwi (mi_rem (a := k / 5) (b := 5) (mi_div (a := k) (b := 5) rfl rfl (by omega) (by omega) (by omega)) rfl (by omega) (by omega) (by omega)) ?_
          refine lv_istore (lv' := [(6, .int (nI ((k / 5) % 5))), (5, .int (nI ((k / 25) % 5))), (4, .int (nI k)), (3, .int Mo), (2, .int B), (0, .ref (ad 0)), (1, .int i)]) hx hb dX0_rings_42 hl (by decide) rfl (fun ls hl => ?_)
          refine lv_iload hx hb dX0_rings_44 (lv_at hl 2 rfl) ?_
          refine lv_bipush (v := 125) hx hb dX0_rings_46 (by decide) ?_
          refine lv_icmp_ge (tgt := 68) hx hb dX0_rings_48 (by decide) (fun c_14 => ?_) (fun c_14 => ?_)
          · have nc_14 : 125 ≤ k := mi_le rfl rfl (by omega) (by omega) c_14
            refine lv_iload hx hb dX0_rings_68 (lv_at hl 2 rfl) ?_
            refine lv_iconst (v := 5) hx hb dX0_rings_70 (by decide) ?_
            refine lv_irem hx hb dX0_rings_71 (by decide) ?_
            refine lv_rwi (mi_rem (a := k) (b := 5) rfl rfl (by omega) (by omega) (by omega)) ?_
            refine lv_istore (lv' := [(7, .int (nI (k % 5))), (6, .int (nI ((k / 5) % 5))), (5, .int (nI ((k / 25) % 5))), (4, .int (nI k)), (3, .int Mo), (2, .int B), (0, .ref (ad 0)), (1, .int i)]) hx hb dX0_rings_72 hl (by decide) rfl (fun ls hl => ?_)
            refine lv_aload_n hx hb dX0_rings_74 rfl (lv_at hl 6 rfl) ?_
            refine lv_iload hx hb dX0_rings_75 (lv_at hl 2 rfl) ?_
            refine vp_callSi (W.runV (As := [.int (nI ((k / 25) % 5))]) (rest := []) ⟨hx, hb, hml, hown, hts⟩ (mt_X0_isPerson l D dA rr xs ad N hA σ (nI ((k / 25) % 5)) np hF.n hF.n5) (cwV 1 hts (lw_V q355 q357 qs2 q45 q358) rfl rfl rfl (by decide +kernel) ⟨Nat.le_of_ble_eq_true rfl, Nat.le_of_ble_eq_true rfl⟩) ⟨mPre.blind, m_recv hE hP 0 (xl_n hA (by decide)) rfl rfl, mPre.at hE hP⟩ rfl rfl hl.1 rfl (lv_room (Nat.le_of_ble_eq_true rfl)) dX0_rings_77 ⟨Nat.le_of_ble_eq_true rfl, Nat.le_of_ble_eq_true rfl⟩) (fun r_15 hr_15 => ?_)
            subst hr_15
            refine lv_rwi (bi_c (ik_nat rfl (by omega))) ?_
            refine lv_if_eq (tgt := 131) hx hb dX0_rings_80 (by decide) (fun c_16 => ?_) (fun c_16 => ?_)
            · have c_16 : ¬ (((k / 25) % 5) < np) := bi_f c_16
              refine lv_iconst (v := 0) hx hb dX0_rings_131 (by decide) ?_
              refine lv_istore (lv' := [(8, .int 0), (7, .int (nI (k % 5))), (6, .int (nI ((k / 5) % 5))), (5, .int (nI ((k / 25) % 5))), (4, .int (nI k)), (3, .int Mo), (2, .int B), (0, .ref (ad 0)), (1, .int i)]) hx hb dX0_rings_132 hl (by decide) rfl (fun ls hl => ?_)
              refine lv_iload hx hb dX0_rings_134 (lv_at hl 0 rfl) ?_
              refine lv_if_eq (tgt := 179) hx hb dX0_rings_136 (by decide) (fun c_17 => ?_) (fun c_17 => ?_)
              · skip
                refine lv_bipush (v := (-4)) hx hb dX0_rings_179 (by decide) ?_
                refine lv_istore (lv' := [(9, .int (-4)), (8, .int 0), (7, .int (nI (k % 5))), (6, .int (nI ((k / 5) % 5))), (5, .int (nI ((k / 25) % 5))), (4, .int (nI k)), (3, .int Mo), (2, .int B), (0, .ref (ad 0)), (1, .int i)]) hx hb dX0_rings_181 hl (by decide) rfl (fun ls hl => ?_)
                refine lv_iload hx hb dX0_rings_183 (lv_at hl 0 rfl) ?_
                refine lv_iload_n hx hb dX0_rings_185 rfl (lv_at hl 6 rfl) ?_
                refine lv_icmp_le (tgt := 195) hx hb dX0_rings_186 (by decide) (fun c_18 => ?_) (fun c_18 => ?_)
                · skip
                  refine lv_iinc (v := (nI (k + 1))) (lv' := [(4, .int (nI (k + 1))), (9, .int (-4)), (8, .int 0), (7, .int (nI (k % 5))), (6, .int (nI ((k / 5) % 5))), (5, .int (nI ((k / 25) % 5))), (3, .int Mo), (2, .int B), (0, .ref (ad 0)), (1, .int i)]) hx hb dX0_rings_195 hl (k := 5) rfl (mi_add rfl rfl) (by decide) rfl (fun ls hl => ?_)
                  refine lv_goto (tgt := 19) hx hb dX0_rings_198 (by decide) ?_
                  exact ih19  (k + 1) B Mo (by omega) (by rw [fmx, ← hfm, show rgS σ np nc ld k = (-4) from by unfold rgS; rw [if_neg (by omega), if_neg (by omega)]]; dsimp only; rw [if_neg (Int32.not_lt.mpr c_18)]) (by omega) ls (lv_sub hl [0, 6, 7, 8, 9] rfl)
                · skip
                  refine lv_iload hx hb dX0_rings_189 (lv_at hl 5 rfl) ?_
                  refine lv_istore_n (lv' := [(2, .int (nI k)), (9, .int (-4)), (8, .int 0), (7, .int (nI (k % 5))), (6, .int (nI ((k / 5) % 5))), (5, .int (nI ((k / 25) % 5))), (4, .int (nI k)), (3, .int Mo), (0, .ref (ad 0)), (1, .int i)]) hx hb dX0_rings_191 rfl hl (by decide) rfl (fun ls hl => ?_)
                  refine lv_iload hx hb dX0_rings_192 (lv_at hl 1 rfl) ?_
                  refine lv_istore_n (lv' := [(3, .int (-4)), (2, .int (nI k)), (9, .int (-4)), (8, .int 0), (7, .int (nI (k % 5))), (6, .int (nI ((k / 5) % 5))), (5, .int (nI ((k / 25) % 5))), (4, .int (nI k)), (0, .ref (ad 0)), (1, .int i)]) hx hb dX0_rings_194 rfl hl (by decide) rfl (fun ls hl => ?_)
                  refine lv_iinc (v := (nI (k + 1))) (lv' := [(4, .int (nI (k + 1))), (3, .int (-4)), (2, .int (nI k)), (9, .int (-4)), (8, .int 0), (7, .int (nI (k % 5))), (6, .int (nI ((k / 5) % 5))), (5, .int (nI ((k / 25) % 5))), (0, .ref (ad 0)), (1, .int i)]) hx hb dX0_rings_195 hl (k := 7) rfl (mi_add rfl rfl) (by decide) rfl (fun ls hl => ?_)
                  refine lv_goto (tgt := 19) hx hb dX0_rings_198 (by decide) ?_
                  exact ih19  (k + 1) (nI k) (-4) (by omega) (by rw [fmx, ← hfm, show rgS σ np nc ld k = (-4) from by unfold rgS; rw [if_neg (by omega), if_neg (by omega)]]; dsimp only; rw [if_pos (Int32.not_le.mp c_18)]) (by omega) ls (lv_sub hl [0, 1, 2, 8, 9] rfl)
              · skip
                exact absurd c_17 (by decide)
            · have c_16 : ((k / 25) % 5) < np := bi_t c_16
              have c_16_m := hF.m c_16
              have c_16_8 := hF.m8 c_16
              refine lv_aload_n hx hb dX0_rings_83 rfl (lv_at hl 6 rfl) ?_
              refine lv_iload hx hb dX0_rings_84 (lv_at hl 1 rfl) ?_
              refine vp_callSi (W.runV (As := [.int (nI ((k / 5) % 5))]) (rest := []) ⟨hx, hb, hml, hown, hts⟩ (mt_X0_isPerson l D dA rr xs ad N hA σ (nI ((k / 5) % 5)) np hF.n hF.n5) (cwV 1 hts (lw_V q355 q357 qs2 q45 q358) rfl rfl rfl (by decide +kernel) ⟨Nat.le_of_ble_eq_true rfl, Nat.le_of_ble_eq_true rfl⟩) ⟨mPre.blind, m_recv hE hP 0 (xl_n hA (by decide)) rfl rfl, mPre.at hE hP⟩ rfl rfl hl.1 rfl (lv_room (Nat.le_of_ble_eq_true rfl)) dX0_rings_86 ⟨Nat.le_of_ble_eq_true rfl, Nat.le_of_ble_eq_true rfl⟩) (fun r_19 hr_19 => ?_)
              subst hr_19
              refine lv_rwi (bi_c (ik_nat rfl (by omega))) ?_
              refine lv_if_eq (tgt := 131) hx hb dX0_rings_89 (by decide) (fun c_20 => ?_) (fun c_20 => ?_)
              · have c_20 : ¬ (((k / 5) % 5) < np) := bi_f c_20
                refine lv_iconst (v := 0) hx hb dX0_rings_131 (by decide) ?_
                refine lv_istore (lv' := [(8, .int 0), (7, .int (nI (k % 5))), (6, .int (nI ((k / 5) % 5))), (5, .int (nI ((k / 25) % 5))), (4, .int (nI k)), (3, .int Mo), (2, .int B), (0, .ref (ad 0)), (1, .int i)]) hx hb dX0_rings_132 hl (by decide) rfl (fun ls hl => ?_)
                refine lv_iload hx hb dX0_rings_134 (lv_at hl 0 rfl) ?_
                refine lv_if_eq (tgt := 179) hx hb dX0_rings_136 (by decide) (fun c_21 => ?_) (fun c_21 => ?_)
                · skip
                  refine lv_bipush (v := (-4)) hx hb dX0_rings_179 (by decide) ?_
                  refine lv_istore (lv' := [(9, .int (-4)), (8, .int 0), (7, .int (nI (k % 5))), (6, .int (nI ((k / 5) % 5))), (5, .int (nI ((k / 25) % 5))), (4, .int (nI k)), (3, .int Mo), (2, .int B), (0, .ref (ad 0)), (1, .int i)]) hx hb dX0_rings_181 hl (by decide) rfl (fun ls hl => ?_)
                  refine lv_iload hx hb dX0_rings_183 (lv_at hl 0 rfl) ?_
                  refine lv_iload_n hx hb dX0_rings_185 rfl (lv_at hl 6 rfl) ?_
                  refine lv_icmp_le (tgt := 195) hx hb dX0_rings_186 (by decide) (fun c_22 => ?_) (fun c_22 => ?_)
                  · skip
                    refine lv_iinc (v := (nI (k + 1))) (lv' := [(4, .int (nI (k + 1))), (9, .int (-4)), (8, .int 0), (7, .int (nI (k % 5))), (6, .int (nI ((k / 5) % 5))), (5, .int (nI ((k / 25) % 5))), (3, .int Mo), (2, .int B), (0, .ref (ad 0)), (1, .int i)]) hx hb dX0_rings_195 hl (k := 5) rfl (mi_add rfl rfl) (by decide) rfl (fun ls hl => ?_)
                    refine lv_goto (tgt := 19) hx hb dX0_rings_198 (by decide) ?_
                    exact ih19  (k + 1) B Mo (by omega) (by rw [fmx, ← hfm, show rgS σ np nc ld k = (-4) from by unfold rgS; rw [if_neg (by omega), if_neg (by omega)]]; dsimp only; rw [if_neg (Int32.not_lt.mpr c_22)]) (by omega) ls (lv_sub hl [0, 6, 7, 8, 9] rfl)
                  · skip
                    refine lv_iload hx hb dX0_rings_189 (lv_at hl 5 rfl) ?_
                    refine lv_istore_n (lv' := [(2, .int (nI k)), (9, .int (-4)), (8, .int 0), (7, .int (nI (k % 5))), (6, .int (nI ((k / 5) % 5))), (5, .int (nI ((k / 25) % 5))), (4, .int (nI k)), (3, .int Mo), (0, .ref (ad 0)), (1, .int i)]) hx hb dX0_rings_191 rfl hl (by decide) rfl (fun ls hl => ?_)
                    refine lv_iload hx hb dX0_rings_192 (lv_at hl 1 rfl) ?_
                    refine lv_istore_n (lv' := [(3, .int (-4)), (2, .int (nI k)), (9, .int (-4)), (8, .int 0), (7, .int (nI (k % 5))), (6, .int (nI ((k / 5) % 5))), (5, .int (nI ((k / 25) % 5))), (4, .int (nI k)), (0, .ref (ad 0)), (1, .int i)]) hx hb dX0_rings_194 rfl hl (by decide) rfl (fun ls hl => ?_)
                    refine lv_iinc (v := (nI (k + 1))) (lv' := [(4, .int (nI (k + 1))), (3, .int (-4)), (2, .int (nI k)), (9, .int (-4)), (8, .int 0), (7, .int (nI (k % 5))), (6, .int (nI ((k / 5) % 5))), (5, .int (nI ((k / 25) % 5))), (0, .ref (ad 0)), (1, .int i)]) hx hb dX0_rings_195 hl (k := 7) rfl (mi_add rfl rfl) (by decide) rfl (fun ls hl => ?_)
                    refine lv_goto (tgt := 19) hx hb dX0_rings_198 (by decide) ?_
                    exact ih19  (k + 1) (nI k) (-4) (by omega) (by rw [fmx, ← hfm, show rgS σ np nc ld k = (-4) from by unfold rgS; rw [if_neg (by omega), if_neg (by omega)]]; dsimp only; rw [if_pos (Int32.not_le.mp c_22)]) (by omega) ls (lv_sub hl [0, 1, 2, 8, 9] rfl)
                · skip
                  exact absurd c_21 (by decide)
              · have c_20 : ((k / 5) % 5) < np := bi_t c_20
                have c_20_m := hF.m c_20
                have c_20_8 := hF.m8 c_20
                refine lv_iload hx hb dX0_rings_92 (lv_at hl 2 rfl) ?_
                refine lv_iload hx hb dX0_rings_94 (lv_at hl 1 rfl) ?_
                refine lv_icmp_ge (tgt := 131) hx hb dX0_rings_96 (by decide) (fun c_23 => ?_) (fun c_23 => ?_)
                · have nc_23 : (k / 5) % 5 ≤ (k / 25) % 5 := mi_le rfl rfl (by omega) (by omega) c_23
                  refine lv_iconst (v := 0) hx hb dX0_rings_131 (by decide) ?_
                  refine lv_istore (lv' := [(8, .int 0), (7, .int (nI (k % 5))), (6, .int (nI ((k / 5) % 5))), (5, .int (nI ((k / 25) % 5))), (4, .int (nI k)), (3, .int Mo), (2, .int B), (0, .ref (ad 0)), (1, .int i)]) hx hb dX0_rings_132 hl (by decide) rfl (fun ls hl => ?_)
                  refine lv_iload hx hb dX0_rings_134 (lv_at hl 0 rfl) ?_
                  refine lv_if_eq (tgt := 179) hx hb dX0_rings_136 (by decide) (fun c_24 => ?_) (fun c_24 => ?_)
                  · skip
                    refine lv_bipush (v := (-4)) hx hb dX0_rings_179 (by decide) ?_
                    refine lv_istore (lv' := [(9, .int (-4)), (8, .int 0), (7, .int (nI (k % 5))), (6, .int (nI ((k / 5) % 5))), (5, .int (nI ((k / 25) % 5))), (4, .int (nI k)), (3, .int Mo), (2, .int B), (0, .ref (ad 0)), (1, .int i)]) hx hb dX0_rings_181 hl (by decide) rfl (fun ls hl => ?_)
                    refine lv_iload hx hb dX0_rings_183 (lv_at hl 0 rfl) ?_
                    refine lv_iload_n hx hb dX0_rings_185 rfl (lv_at hl 6 rfl) ?_
                    refine lv_icmp_le (tgt := 195) hx hb dX0_rings_186 (by decide) (fun c_25 => ?_) (fun c_25 => ?_)
                    · skip
                      refine lv_iinc (v := (nI (k + 1))) (lv' := [(4, .int (nI (k + 1))), (9, .int (-4)), (8, .int 0), (7, .int (nI (k % 5))), (6, .int (nI ((k / 5) % 5))), (5, .int (nI ((k / 25) % 5))), (3, .int Mo), (2, .int B), (0, .ref (ad 0)), (1, .int i)]) hx hb dX0_rings_195 hl (k := 5) rfl (mi_add rfl rfl) (by decide) rfl (fun ls hl => ?_)
                      refine lv_goto (tgt := 19) hx hb dX0_rings_198 (by decide) ?_
                      exact ih19  (k + 1) B Mo (by omega) (by rw [fmx, ← hfm, show rgS σ np nc ld k = (-4) from by unfold rgS; rw [if_neg (by omega), if_neg (by omega)]]; dsimp only; rw [if_neg (Int32.not_lt.mpr c_25)]) (by omega) ls (lv_sub hl [0, 6, 7, 8, 9] rfl)
                    · skip
                      refine lv_iload hx hb dX0_rings_189 (lv_at hl 5 rfl) ?_
                      refine lv_istore_n (lv' := [(2, .int (nI k)), (9, .int (-4)), (8, .int 0), (7, .int (nI (k % 5))), (6, .int (nI ((k / 5) % 5))), (5, .int (nI ((k / 25) % 5))), (4, .int (nI k)), (3, .int Mo), (0, .ref (ad 0)), (1, .int i)]) hx hb dX0_rings_191 rfl hl (by decide) rfl (fun ls hl => ?_)
                      refine lv_iload hx hb dX0_rings_192 (lv_at hl 1 rfl) ?_
                      refine lv_istore_n (lv' := [(3, .int (-4)), (2, .int (nI k)), (9, .int (-4)), (8, .int 0), (7, .int (nI (k % 5))), (6, .int (nI ((k / 5) % 5))), (5, .int (nI ((k / 25) % 5))), (4, .int (nI k)), (0, .ref (ad 0)), (1, .int i)]) hx hb dX0_rings_194 rfl hl (by decide) rfl (fun ls hl => ?_)
                      refine lv_iinc (v := (nI (k + 1))) (lv' := [(4, .int (nI (k + 1))), (3, .int (-4)), (2, .int (nI k)), (9, .int (-4)), (8, .int 0), (7, .int (nI (k % 5))), (6, .int (nI ((k / 5) % 5))), (5, .int (nI ((k / 25) % 5))), (0, .ref (ad 0)), (1, .int i)]) hx hb dX0_rings_195 hl (k := 7) rfl (mi_add rfl rfl) (by decide) rfl (fun ls hl => ?_)
                      refine lv_goto (tgt := 19) hx hb dX0_rings_198 (by decide) ?_
                      exact ih19  (k + 1) (nI k) (-4) (by omega) (by rw [fmx, ← hfm, show rgS σ np nc ld k = (-4) from by unfold rgS; rw [if_neg (by omega), if_neg (by omega)]]; dsimp only; rw [if_pos (Int32.not_le.mp c_25)]) (by omega) ls (lv_sub hl [0, 1, 2, 8, 9] rfl)
                  · skip
                    exact absurd c_24 (by decide)
                · have nc_23 : (k / 25) % 5 < (k / 5) % 5 := mi_nle rfl rfl (by omega) (by omega) c_23
                  refine lv_iload hx hb dX0_rings_99 (lv_at hl 0 rfl) ?_
                  refine lv_if_lt (tgt := 127) hx hb dX0_rings_101 (by decide) (fun c_26 => ?_) (fun c_26 => ?_)
                  · have nc_26 : k % 5 < 0 := mi_lt rfl rfl (by omega) (by omega) c_26
                    exact absurd nc_26 (Nat.not_lt_zero _)
                  · have nc_26 : 0 ≤ k % 5 := mi_nlt rfl rfl (by omega) (by omega) c_26
                    refine lv_aload_n hx hb dX0_rings_104 rfl (lv_at hl 6 rfl) ?_
                    refine lv_iload hx hb dX0_rings_105 (lv_at hl 0 rfl) ?_
                    refine vp_callSi (W.runV (As := [.int (nI (k % 5))]) (rest := []) ⟨hx, hb, hml, hown, hts⟩ (mt_X0_isPerson l D dA rr xs ad N hA σ (nI (k % 5)) np hF.n hF.n5) (cwV 1 hts (lw_V q355 q357 qs2 q45 q358) rfl rfl rfl (by decide +kernel) ⟨Nat.le_of_ble_eq_true rfl, Nat.le_of_ble_eq_true rfl⟩) ⟨mPre.blind, m_recv hE hP 0 (xl_n hA (by decide)) rfl rfl, mPre.at hE hP⟩ rfl rfl hl.1 rfl (lv_room (Nat.le_of_ble_eq_true rfl)) dX0_rings_107 ⟨Nat.le_of_ble_eq_true rfl, Nat.le_of_ble_eq_true rfl⟩) (fun r_27 hr_27 => ?_)
                    subst hr_27
                    refine lv_rwi (bi_c (ik_nat rfl (by omega))) ?_
                    refine lv_if_eq (tgt := 131) hx hb dX0_rings_110 (by decide) (fun c_28 => ?_) (fun c_28 => ?_)
                    · have c_28 : ¬ ((k % 5) < np) := bi_f c_28
                      refine lv_iconst (v := 0) hx hb dX0_rings_131 (by decide) ?_
                      refine lv_istore (lv' := [(8, .int 0), (7, .int (nI (k % 5))), (6, .int (nI ((k / 5) % 5))), (5, .int (nI ((k / 25) % 5))), (4, .int (nI k)), (3, .int Mo), (2, .int B), (0, .ref (ad 0)), (1, .int i)]) hx hb dX0_rings_132 hl (by decide) rfl (fun ls hl => ?_)
                      refine lv_iload hx hb dX0_rings_134 (lv_at hl 0 rfl) ?_
                      refine lv_if_eq (tgt := 179) hx hb dX0_rings_136 (by decide) (fun c_29 => ?_) (fun c_29 => ?_)
                      · skip
                        refine lv_bipush (v := (-4)) hx hb dX0_rings_179 (by decide) ?_
                        refine lv_istore (lv' := [(9, .int (-4)), (8, .int 0), (7, .int (nI (k % 5))), (6, .int (nI ((k / 5) % 5))), (5, .int (nI ((k / 25) % 5))), (4, .int (nI k)), (3, .int Mo), (2, .int B), (0, .ref (ad 0)), (1, .int i)]) hx hb dX0_rings_181 hl (by decide) rfl (fun ls hl => ?_)
                        refine lv_iload hx hb dX0_rings_183 (lv_at hl 0 rfl) ?_
                        refine lv_iload_n hx hb dX0_rings_185 rfl (lv_at hl 6 rfl) ?_
                        refine lv_icmp_le (tgt := 195) hx hb dX0_rings_186 (by decide) (fun c_30 => ?_) (fun c_30 => ?_)
                        · skip
                          refine lv_iinc (v := (nI (k + 1))) (lv' := [(4, .int (nI (k + 1))), (9, .int (-4)), (8, .int 0), (7, .int (nI (k % 5))), (6, .int (nI ((k / 5) % 5))), (5, .int (nI ((k / 25) % 5))), (3, .int Mo), (2, .int B), (0, .ref (ad 0)), (1, .int i)]) hx hb dX0_rings_195 hl (k := 5) rfl (mi_add rfl rfl) (by decide) rfl (fun ls hl => ?_)
                          refine lv_goto (tgt := 19) hx hb dX0_rings_198 (by decide) ?_
                          exact ih19  (k + 1) B Mo (by omega) (by rw [fmx, ← hfm, show rgS σ np nc ld k = (-4) from by unfold rgS; rw [if_neg (by omega), if_neg (by omega)]]; dsimp only; rw [if_neg (Int32.not_lt.mpr c_30)]) (by omega) ls (lv_sub hl [0, 6, 7, 8, 9] rfl)
                        · skip
                          refine lv_iload hx hb dX0_rings_189 (lv_at hl 5 rfl) ?_
                          refine lv_istore_n (lv' := [(2, .int (nI k)), (9, .int (-4)), (8, .int 0), (7, .int (nI (k % 5))), (6, .int (nI ((k / 5) % 5))), (5, .int (nI ((k / 25) % 5))), (4, .int (nI k)), (3, .int Mo), (0, .ref (ad 0)), (1, .int i)]) hx hb dX0_rings_191 rfl hl (by decide) rfl (fun ls hl => ?_)
                          refine lv_iload hx hb dX0_rings_192 (lv_at hl 1 rfl) ?_
                          refine lv_istore_n (lv' := [(3, .int (-4)), (2, .int (nI k)), (9, .int (-4)), (8, .int 0), (7, .int (nI (k % 5))), (6, .int (nI ((k / 5) % 5))), (5, .int (nI ((k / 25) % 5))), (4, .int (nI k)), (0, .ref (ad 0)), (1, .int i)]) hx hb dX0_rings_194 rfl hl (by decide) rfl (fun ls hl => ?_)
                          refine lv_iinc (v := (nI (k + 1))) (lv' := [(4, .int (nI (k + 1))), (3, .int (-4)), (2, .int (nI k)), (9, .int (-4)), (8, .int 0), (7, .int (nI (k % 5))), (6, .int (nI ((k / 5) % 5))), (5, .int (nI ((k / 25) % 5))), (0, .ref (ad 0)), (1, .int i)]) hx hb dX0_rings_195 hl (k := 7) rfl (mi_add rfl rfl) (by decide) rfl (fun ls hl => ?_)
                          refine lv_goto (tgt := 19) hx hb dX0_rings_198 (by decide) ?_
                          exact ih19  (k + 1) (nI k) (-4) (by omega) (by rw [fmx, ← hfm, show rgS σ np nc ld k = (-4) from by unfold rgS; rw [if_neg (by omega), if_neg (by omega)]]; dsimp only; rw [if_pos (Int32.not_le.mp c_30)]) (by omega) ls (lv_sub hl [0, 1, 2, 8, 9] rfl)
                      · skip
                        exact absurd c_29 (by decide)
                    · have c_28 : (k % 5) < np := bi_t c_28
                      have c_28_m := hF.m c_28
                      have c_28_8 := hF.m8 c_28
                      refine lv_iload hx hb dX0_rings_113 (lv_at hl 2 rfl) ?_
                      refine lv_iload hx hb dX0_rings_115 (lv_at hl 0 rfl) ?_
                      refine lv_icmp_ge (tgt := 131) hx hb dX0_rings_117 (by decide) (fun c_31 => ?_) (fun c_31 => ?_)
                      · have nc_31 : k % 5 ≤ (k / 25) % 5 := mi_le rfl rfl (by omega) (by omega) c_31
                        refine lv_iconst (v := 0) hx hb dX0_rings_131 (by decide) ?_
                        refine lv_istore (lv' := [(8, .int 0), (7, .int (nI (k % 5))), (6, .int (nI ((k / 5) % 5))), (5, .int (nI ((k / 25) % 5))), (4, .int (nI k)), (3, .int Mo), (2, .int B), (0, .ref (ad 0)), (1, .int i)]) hx hb dX0_rings_132 hl (by decide) rfl (fun ls hl => ?_)
                        refine lv_iload hx hb dX0_rings_134 (lv_at hl 0 rfl) ?_
                        refine lv_if_eq (tgt := 179) hx hb dX0_rings_136 (by decide) (fun c_32 => ?_) (fun c_32 => ?_)
                        · skip
                          refine lv_bipush (v := (-4)) hx hb dX0_rings_179 (by decide) ?_
                          refine lv_istore (lv' := [(9, .int (-4)), (8, .int 0), (7, .int (nI (k % 5))), (6, .int (nI ((k / 5) % 5))), (5, .int (nI ((k / 25) % 5))), (4, .int (nI k)), (3, .int Mo), (2, .int B), (0, .ref (ad 0)), (1, .int i)]) hx hb dX0_rings_181 hl (by decide) rfl (fun ls hl => ?_)
                          refine lv_iload hx hb dX0_rings_183 (lv_at hl 0 rfl) ?_
                          refine lv_iload_n hx hb dX0_rings_185 rfl (lv_at hl 6 rfl) ?_
                          refine lv_icmp_le (tgt := 195) hx hb dX0_rings_186 (by decide) (fun c_33 => ?_) (fun c_33 => ?_)
                          · skip
                            refine lv_iinc (v := (nI (k + 1))) (lv' := [(4, .int (nI (k + 1))), (9, .int (-4)), (8, .int 0), (7, .int (nI (k % 5))), (6, .int (nI ((k / 5) % 5))), (5, .int (nI ((k / 25) % 5))), (3, .int Mo), (2, .int B), (0, .ref (ad 0)), (1, .int i)]) hx hb dX0_rings_195 hl (k := 5) rfl (mi_add rfl rfl) (by decide) rfl (fun ls hl => ?_)
                            refine lv_goto (tgt := 19) hx hb dX0_rings_198 (by decide) ?_
                            exact ih19  (k + 1) B Mo (by omega) (by rw [fmx, ← hfm, show rgS σ np nc ld k = (-4) from by unfold rgS; rw [if_neg (by omega), if_neg (by omega)]]; dsimp only; rw [if_neg (Int32.not_lt.mpr c_33)]) (by omega) ls (lv_sub hl [0, 6, 7, 8, 9] rfl)
                          · skip
                            refine lv_iload hx hb dX0_rings_189 (lv_at hl 5 rfl) ?_
                            refine lv_istore_n (lv' := [(2, .int (nI k)), (9, .int (-4)), (8, .int 0), (7, .int (nI (k % 5))), (6, .int (nI ((k / 5) % 5))), (5, .int (nI ((k / 25) % 5))), (4, .int (nI k)), (3, .int Mo), (0, .ref (ad 0)), (1, .int i)]) hx hb dX0_rings_191 rfl hl (by decide) rfl (fun ls hl => ?_)
                            refine lv_iload hx hb dX0_rings_192 (lv_at hl 1 rfl) ?_
                            refine lv_istore_n (lv' := [(3, .int (-4)), (2, .int (nI k)), (9, .int (-4)), (8, .int 0), (7, .int (nI (k % 5))), (6, .int (nI ((k / 5) % 5))), (5, .int (nI ((k / 25) % 5))), (4, .int (nI k)), (0, .ref (ad 0)), (1, .int i)]) hx hb dX0_rings_194 rfl hl (by decide) rfl (fun ls hl => ?_)
                            refine lv_iinc (v := (nI (k + 1))) (lv' := [(4, .int (nI (k + 1))), (3, .int (-4)), (2, .int (nI k)), (9, .int (-4)), (8, .int 0), (7, .int (nI (k % 5))), (6, .int (nI ((k / 5) % 5))), (5, .int (nI ((k / 25) % 5))), (0, .ref (ad 0)), (1, .int i)]) hx hb dX0_rings_195 hl (k := 7) rfl (mi_add rfl rfl) (by decide) rfl (fun ls hl => ?_)
                            refine lv_goto (tgt := 19) hx hb dX0_rings_198 (by decide) ?_
                            exact ih19  (k + 1) (nI k) (-4) (by omega) (by rw [fmx, ← hfm, show rgS σ np nc ld k = (-4) from by unfold rgS; rw [if_neg (by omega), if_neg (by omega)]]; dsimp only; rw [if_pos (Int32.not_le.mp c_33)]) (by omega) ls (lv_sub hl [0, 1, 2, 8, 9] rfl)
                        · skip
                          exact absurd c_32 (by decide)
                      · have nc_31 : (k / 25) % 5 < k % 5 := mi_nle rfl rfl (by omega) (by omega) c_31
                        refine lv_iload hx hb dX0_rings_120 (lv_at hl 0 rfl) ?_
                        refine lv_iload hx hb dX0_rings_122 (lv_at hl 1 rfl) ?_
                        refine lv_icmp_eq (tgt := 131) hx hb dX0_rings_124 (by decide) (fun c_34 => ?_) (fun c_34 => ?_)
                        · have nc_34 : k % 5 = (k / 5) % 5 := mi_eq rfl rfl (by omega) (by omega) c_34
                          refine lv_iconst (v := 0) hx hb dX0_rings_131 (by decide) ?_
                          refine lv_istore (lv' := [(8, .int 0), (7, .int (nI (k % 5))), (6, .int (nI ((k / 5) % 5))), (5, .int (nI ((k / 25) % 5))), (4, .int (nI k)), (3, .int Mo), (2, .int B), (0, .ref (ad 0)), (1, .int i)]) hx hb dX0_rings_132 hl (by decide) rfl (fun ls hl => ?_)
                          refine lv_iload hx hb dX0_rings_134 (lv_at hl 0 rfl) ?_
                          refine lv_if_eq (tgt := 179) hx hb dX0_rings_136 (by decide) (fun c_35 => ?_) (fun c_35 => ?_)
                          · skip
                            refine lv_bipush (v := (-4)) hx hb dX0_rings_179 (by decide) ?_
                            refine lv_istore (lv' := [(9, .int (-4)), (8, .int 0), (7, .int (nI (k % 5))), (6, .int (nI ((k / 5) % 5))), (5, .int (nI ((k / 25) % 5))), (4, .int (nI k)), (3, .int Mo), (2, .int B), (0, .ref (ad 0)), (1, .int i)]) hx hb dX0_rings_181 hl (by decide) rfl (fun ls hl => ?_)
                            refine lv_iload hx hb dX0_rings_183 (lv_at hl 0 rfl) ?_
                            refine lv_iload_n hx hb dX0_rings_185 rfl (lv_at hl 6 rfl) ?_
                            refine lv_icmp_le (tgt := 195) hx hb dX0_rings_186 (by decide) (fun c_36 => ?_) (fun c_36 => ?_)
                            · skip
                              refine lv_iinc (v := (nI (k + 1))) (lv' := [(4, .int (nI (k + 1))), (9, .int (-4)), (8, .int 0), (7, .int (nI (k % 5))), (6, .int (nI ((k / 5) % 5))), (5, .int (nI ((k / 25) % 5))), (3, .int Mo), (2, .int B), (0, .ref (ad 0)), (1, .int i)]) hx hb dX0_rings_195 hl (k := 5) rfl (mi_add rfl rfl) (by decide) rfl (fun ls hl => ?_)
                              refine lv_goto (tgt := 19) hx hb dX0_rings_198 (by decide) ?_
                              exact ih19  (k + 1) B Mo (by omega) (by rw [fmx, ← hfm, show rgS σ np nc ld k = (-4) from by unfold rgS; rw [if_neg (by omega), if_neg (by omega)]]; dsimp only; rw [if_neg (Int32.not_lt.mpr c_36)]) (by omega) ls (lv_sub hl [0, 6, 7, 8, 9] rfl)
                            · skip
                              refine lv_iload hx hb dX0_rings_189 (lv_at hl 5 rfl) ?_
                              refine lv_istore_n (lv' := [(2, .int (nI k)), (9, .int (-4)), (8, .int 0), (7, .int (nI (k % 5))), (6, .int (nI ((k / 5) % 5))), (5, .int (nI ((k / 25) % 5))), (4, .int (nI k)), (3, .int Mo), (0, .ref (ad 0)), (1, .int i)]) hx hb dX0_rings_191 rfl hl (by decide) rfl (fun ls hl => ?_)
                              refine lv_iload hx hb dX0_rings_192 (lv_at hl 1 rfl) ?_
                              refine lv_istore_n (lv' := [(3, .int (-4)), (2, .int (nI k)), (9, .int (-4)), (8, .int 0), (7, .int (nI (k % 5))), (6, .int (nI ((k / 5) % 5))), (5, .int (nI ((k / 25) % 5))), (4, .int (nI k)), (0, .ref (ad 0)), (1, .int i)]) hx hb dX0_rings_194 rfl hl (by decide) rfl (fun ls hl => ?_)
                              refine lv_iinc (v := (nI (k + 1))) (lv' := [(4, .int (nI (k + 1))), (3, .int (-4)), (2, .int (nI k)), (9, .int (-4)), (8, .int 0), (7, .int (nI (k % 5))), (6, .int (nI ((k / 5) % 5))), (5, .int (nI ((k / 25) % 5))), (0, .ref (ad 0)), (1, .int i)]) hx hb dX0_rings_195 hl (k := 7) rfl (mi_add rfl rfl) (by decide) rfl (fun ls hl => ?_)
                              refine lv_goto (tgt := 19) hx hb dX0_rings_198 (by decide) ?_
                              exact ih19  (k + 1) (nI k) (-4) (by omega) (by rw [fmx, ← hfm, show rgS σ np nc ld k = (-4) from by unfold rgS; rw [if_neg (by omega), if_neg (by omega)]]; dsimp only; rw [if_pos (Int32.not_le.mp c_36)]) (by omega) ls (lv_sub hl [0, 1, 2, 8, 9] rfl)
                          · skip
                            exact absurd c_35 (by decide)
                        · have nc_34 : k % 5 ≠ (k / 5) % 5 := mi_ne rfl rfl (by omega) (by omega) c_34
                          refine lv_iconst (v := 1) hx hb dX0_rings_127 (by decide) ?_
                          refine lv_goto (tgt := 132) hx hb dX0_rings_128 (by decide) ?_
                          refine lv_istore (lv' := [(8, .int 1), (7, .int (nI (k % 5))), (6, .int (nI ((k / 5) % 5))), (5, .int (nI ((k / 25) % 5))), (4, .int (nI k)), (3, .int Mo), (2, .int B), (0, .ref (ad 0)), (1, .int i)]) hx hb dX0_rings_132 hl (by decide) rfl (fun ls hl => ?_)
                          refine lv_iload hx hb dX0_rings_134 (lv_at hl 0 rfl) ?_
                          refine lv_if_eq (tgt := 179) hx hb dX0_rings_136 (by decide) (fun c_37 => ?_) (fun c_37 => ?_)
                          · skip
                            exact absurd c_37 (by decide)
                          · skip
                            refine lv_aload_n hx hb dX0_rings_139 rfl (lv_at hl 7 rfl) ?_
                            refine lv_iload hx hb dX0_rings_140 (lv_at hl 3 rfl) ?_
                            refine vp_callSi (W.runV (As := [.int (nI ((k / 25) % 5))]) (rest := []) ⟨hx, hb, hml, hown, hts⟩ (mt_X0_isBare l D dA rr xs ad N hA σ (nI ((k / 25) % 5)) np nc ld hF (Or.inr ((ik_nat rfl (by omega)).mpr c_16))) (cwV 1 hts (lw_V q521 q523 qs12 q45 q524) rfl rfl rfl (by decide +kernel) ⟨Nat.le_of_ble_eq_true rfl, Nat.le_of_ble_eq_true rfl⟩) ⟨mPre.blind, m_recv hE hP 0 (xl_n hA (by decide)) rfl rfl, mPre.at hE hP⟩ rfl rfl hl.1 rfl (lv_room (Nat.le_of_ble_eq_true rfl)) dX0_rings_142 ⟨Nat.le_of_ble_eq_true rfl, Nat.le_of_ble_eq_true rfl⟩) (fun r_38 hr_38 => ?_)
                            subst hr_38
                            refine lv_rwi (bi_c (bare_nat rfl (by omega) ((ik_nat rfl (by omega)).mpr c_16))) ?_
                            refine lv_if_ne (tgt := 179) hx hb dX0_rings_145 (by decide) (fun c_39 => ?_) (fun c_39 => ?_)
                            · have c_39 : nc ((k / 25) % 5) = 0 := bi_t c_39
                              refine lv_bipush (v := (-4)) hx hb dX0_rings_179 (by decide) ?_
                              refine lv_istore (lv' := [(9, .int (-4)), (8, .int 1), (7, .int (nI (k % 5))), (6, .int (nI ((k / 5) % 5))), (5, .int (nI ((k / 25) % 5))), (4, .int (nI k)), (3, .int Mo), (2, .int B), (0, .ref (ad 0)), (1, .int i)]) hx hb dX0_rings_181 hl (by decide) rfl (fun ls hl => ?_)
                              refine lv_iload hx hb dX0_rings_183 (lv_at hl 0 rfl) ?_
                              refine lv_iload_n hx hb dX0_rings_185 rfl (lv_at hl 6 rfl) ?_
                              refine lv_icmp_le (tgt := 195) hx hb dX0_rings_186 (by decide) (fun c_40 => ?_) (fun c_40 => ?_)
                              · skip
                                refine lv_iinc (v := (nI (k + 1))) (lv' := [(4, .int (nI (k + 1))), (9, .int (-4)), (8, .int 1), (7, .int (nI (k % 5))), (6, .int (nI ((k / 5) % 5))), (5, .int (nI ((k / 25) % 5))), (3, .int Mo), (2, .int B), (0, .ref (ad 0)), (1, .int i)]) hx hb dX0_rings_195 hl (k := 5) rfl (mi_add rfl rfl) (by decide) rfl (fun ls hl => ?_)
                                refine lv_goto (tgt := 19) hx hb dX0_rings_198 (by decide) ?_
                                exact ih19  (k + 1) B Mo (by omega) (by rw [fmx, ← hfm, show rgS σ np nc ld k = (-4) from by unfold rgS; rw [if_neg (by omega), if_neg (by omega)]]; dsimp only; rw [if_neg (Int32.not_lt.mpr c_40)]) (by omega) ls (lv_sub hl [0, 6, 7, 8, 9] rfl)
                              · skip
                                refine lv_iload hx hb dX0_rings_189 (lv_at hl 5 rfl) ?_
                                refine lv_istore_n (lv' := [(2, .int (nI k)), (9, .int (-4)), (8, .int 1), (7, .int (nI (k % 5))), (6, .int (nI ((k / 5) % 5))), (5, .int (nI ((k / 25) % 5))), (4, .int (nI k)), (3, .int Mo), (0, .ref (ad 0)), (1, .int i)]) hx hb dX0_rings_191 rfl hl (by decide) rfl (fun ls hl => ?_)
                                refine lv_iload hx hb dX0_rings_192 (lv_at hl 1 rfl) ?_
                                refine lv_istore_n (lv' := [(3, .int (-4)), (2, .int (nI k)), (9, .int (-4)), (8, .int 1), (7, .int (nI (k % 5))), (6, .int (nI ((k / 5) % 5))), (5, .int (nI ((k / 25) % 5))), (4, .int (nI k)), (0, .ref (ad 0)), (1, .int i)]) hx hb dX0_rings_194 rfl hl (by decide) rfl (fun ls hl => ?_)
                                refine lv_iinc (v := (nI (k + 1))) (lv' := [(4, .int (nI (k + 1))), (3, .int (-4)), (2, .int (nI k)), (9, .int (-4)), (8, .int 1), (7, .int (nI (k % 5))), (6, .int (nI ((k / 5) % 5))), (5, .int (nI ((k / 25) % 5))), (0, .ref (ad 0)), (1, .int i)]) hx hb dX0_rings_195 hl (k := 7) rfl (mi_add rfl rfl) (by decide) rfl (fun ls hl => ?_)
                                refine lv_goto (tgt := 19) hx hb dX0_rings_198 (by decide) ?_
                                exact ih19  (k + 1) (nI k) (-4) (by omega) (by rw [fmx, ← hfm, show rgS σ np nc ld k = (-4) from by unfold rgS; rw [if_neg (by omega), if_neg (by omega)]]; dsimp only; rw [if_pos (Int32.not_le.mp c_40)]) (by omega) ls (lv_sub hl [0, 1, 2, 8, 9] rfl)
                            · have c_39 : ¬ (nc ((k / 25) % 5) = 0) := bi_f c_39
                              refine lv_aload_n hx hb dX0_rings_148 rfl (lv_at hl 7 rfl) ?_
                              refine lv_iload hx hb dX0_rings_149 (lv_at hl 2 rfl) ?_
                              refine vp_callSi (W.runV (As := [.int (nI ((k / 5) % 5))]) (rest := []) ⟨hx, hb, hml, hown, hts⟩ (mt_X0_isBare l D dA rr xs ad N hA σ (nI ((k / 5) % 5)) np nc ld hF (Or.inr ((ik_nat rfl (by omega)).mpr c_20))) (cwV 1 hts (lw_V q521 q523 qs12 q45 q524) rfl rfl rfl (by decide +kernel) ⟨Nat.le_of_ble_eq_true rfl, Nat.le_of_ble_eq_true rfl⟩) ⟨mPre.blind, m_recv hE hP 0 (xl_n hA (by decide)) rfl rfl, mPre.at hE hP⟩ rfl rfl hl.1 rfl (lv_room (Nat.le_of_ble_eq_true rfl)) dX0_rings_151 ⟨Nat.le_of_ble_eq_true rfl, Nat.le_of_ble_eq_true rfl⟩) (fun r_41 hr_41 => ?_)
                              subst hr_41
                              refine lv_rwi (bi_c (bare_nat rfl (by omega) ((ik_nat rfl (by omega)).mpr c_20))) ?_
                              refine lv_if_ne (tgt := 179) hx hb dX0_rings_154 (by decide) (fun c_42 => ?_) (fun c_42 => ?_)
                              · have c_42 : nc ((k / 5) % 5) = 0 := bi_t c_42
                                refine lv_bipush (v := (-4)) hx hb dX0_rings_179 (by decide) ?_
                                refine lv_istore (lv' := [(9, .int (-4)), (8, .int 1), (7, .int (nI (k % 5))), (6, .int (nI ((k / 5) % 5))), (5, .int (nI ((k / 25) % 5))), (4, .int (nI k)), (3, .int Mo), (2, .int B), (0, .ref (ad 0)), (1, .int i)]) hx hb dX0_rings_181 hl (by decide) rfl (fun ls hl => ?_)
                                refine lv_iload hx hb dX0_rings_183 (lv_at hl 0 rfl) ?_
                                refine lv_iload_n hx hb dX0_rings_185 rfl (lv_at hl 6 rfl) ?_
                                refine lv_icmp_le (tgt := 195) hx hb dX0_rings_186 (by decide) (fun c_43 => ?_) (fun c_43 => ?_)
                                · skip
                                  refine lv_iinc (v := (nI (k + 1))) (lv' := [(4, .int (nI (k + 1))), (9, .int (-4)), (8, .int 1), (7, .int (nI (k % 5))), (6, .int (nI ((k / 5) % 5))), (5, .int (nI ((k / 25) % 5))), (3, .int Mo), (2, .int B), (0, .ref (ad 0)), (1, .int i)]) hx hb dX0_rings_195 hl (k := 5) rfl (mi_add rfl rfl) (by decide) rfl (fun ls hl => ?_)
                                  refine lv_goto (tgt := 19) hx hb dX0_rings_198 (by decide) ?_
                                  exact ih19  (k + 1) B Mo (by omega) (by rw [fmx, ← hfm, show rgS σ np nc ld k = (-4) from by unfold rgS; rw [if_neg (by omega), if_neg (by omega)]]; dsimp only; rw [if_neg (Int32.not_lt.mpr c_43)]) (by omega) ls (lv_sub hl [0, 6, 7, 8, 9] rfl)
                                · skip
                                  refine lv_iload hx hb dX0_rings_189 (lv_at hl 5 rfl) ?_
                                  refine lv_istore_n (lv' := [(2, .int (nI k)), (9, .int (-4)), (8, .int 1), (7, .int (nI (k % 5))), (6, .int (nI ((k / 5) % 5))), (5, .int (nI ((k / 25) % 5))), (4, .int (nI k)), (3, .int Mo), (0, .ref (ad 0)), (1, .int i)]) hx hb dX0_rings_191 rfl hl (by decide) rfl (fun ls hl => ?_)
                                  refine lv_iload hx hb dX0_rings_192 (lv_at hl 1 rfl) ?_
                                  refine lv_istore_n (lv' := [(3, .int (-4)), (2, .int (nI k)), (9, .int (-4)), (8, .int 1), (7, .int (nI (k % 5))), (6, .int (nI ((k / 5) % 5))), (5, .int (nI ((k / 25) % 5))), (4, .int (nI k)), (0, .ref (ad 0)), (1, .int i)]) hx hb dX0_rings_194 rfl hl (by decide) rfl (fun ls hl => ?_)
                                  refine lv_iinc (v := (nI (k + 1))) (lv' := [(4, .int (nI (k + 1))), (3, .int (-4)), (2, .int (nI k)), (9, .int (-4)), (8, .int 1), (7, .int (nI (k % 5))), (6, .int (nI ((k / 5) % 5))), (5, .int (nI ((k / 25) % 5))), (0, .ref (ad 0)), (1, .int i)]) hx hb dX0_rings_195 hl (k := 7) rfl (mi_add rfl rfl) (by decide) rfl (fun ls hl => ?_)
                                  refine lv_goto (tgt := 19) hx hb dX0_rings_198 (by decide) ?_
                                  exact ih19  (k + 1) (nI k) (-4) (by omega) (by rw [fmx, ← hfm, show rgS σ np nc ld k = (-4) from by unfold rgS; rw [if_neg (by omega), if_neg (by omega)]]; dsimp only; rw [if_pos (Int32.not_le.mp c_43)]) (by omega) ls (lv_sub hl [0, 1, 2, 8, 9] rfl)
                              · have c_42 : ¬ (nc ((k / 5) % 5) = 0) := bi_f c_42
                                refine lv_aload_n hx hb dX0_rings_157 rfl (lv_at hl 7 rfl) ?_
                                refine lv_iload hx hb dX0_rings_158 (lv_at hl 1 rfl) ?_
                                refine vp_callSi (W.runV (As := [.int (nI (k % 5))]) (rest := []) ⟨hx, hb, hml, hown, hts⟩ (mt_X0_isBare l D dA rr xs ad N hA σ (nI (k % 5)) np nc ld hF (Or.inr ((ik_nat rfl (by omega)).mpr c_28))) (cwV 1 hts (lw_V q521 q523 qs12 q45 q524) rfl rfl rfl (by decide +kernel) ⟨Nat.le_of_ble_eq_true rfl, Nat.le_of_ble_eq_true rfl⟩) ⟨mPre.blind, m_recv hE hP 0 (xl_n hA (by decide)) rfl rfl, mPre.at hE hP⟩ rfl rfl hl.1 rfl (lv_room (Nat.le_of_ble_eq_true rfl)) dX0_rings_160 ⟨Nat.le_of_ble_eq_true rfl, Nat.le_of_ble_eq_true rfl⟩) (fun r_44 hr_44 => ?_)
                                subst hr_44
                                refine lv_rwi (bi_c (bare_nat rfl (by omega) ((ik_nat rfl (by omega)).mpr c_28))) ?_
                                refine lv_if_ne (tgt := 179) hx hb dX0_rings_163 (by decide) (fun c_45 => ?_) (fun c_45 => ?_)
                                · have c_45 : nc (k % 5) = 0 := bi_t c_45
                                  refine lv_bipush (v := (-4)) hx hb dX0_rings_179 (by decide) ?_
                                  refine lv_istore (lv' := [(9, .int (-4)), (8, .int 1), (7, .int (nI (k % 5))), (6, .int (nI ((k / 5) % 5))), (5, .int (nI ((k / 25) % 5))), (4, .int (nI k)), (3, .int Mo), (2, .int B), (0, .ref (ad 0)), (1, .int i)]) hx hb dX0_rings_181 hl (by decide) rfl (fun ls hl => ?_)
                                  refine lv_iload hx hb dX0_rings_183 (lv_at hl 0 rfl) ?_
                                  refine lv_iload_n hx hb dX0_rings_185 rfl (lv_at hl 6 rfl) ?_
                                  refine lv_icmp_le (tgt := 195) hx hb dX0_rings_186 (by decide) (fun c_46 => ?_) (fun c_46 => ?_)
                                  · skip
                                    refine lv_iinc (v := (nI (k + 1))) (lv' := [(4, .int (nI (k + 1))), (9, .int (-4)), (8, .int 1), (7, .int (nI (k % 5))), (6, .int (nI ((k / 5) % 5))), (5, .int (nI ((k / 25) % 5))), (3, .int Mo), (2, .int B), (0, .ref (ad 0)), (1, .int i)]) hx hb dX0_rings_195 hl (k := 5) rfl (mi_add rfl rfl) (by decide) rfl (fun ls hl => ?_)
                                    refine lv_goto (tgt := 19) hx hb dX0_rings_198 (by decide) ?_
                                    exact ih19  (k + 1) B Mo (by omega) (by rw [fmx, ← hfm, show rgS σ np nc ld k = (-4) from by unfold rgS; rw [if_neg (by omega), if_neg (by omega)]]; dsimp only; rw [if_neg (Int32.not_lt.mpr c_46)]) (by omega) ls (lv_sub hl [0, 6, 7, 8, 9] rfl)
                                  · skip
                                    refine lv_iload hx hb dX0_rings_189 (lv_at hl 5 rfl) ?_
                                    refine lv_istore_n (lv' := [(2, .int (nI k)), (9, .int (-4)), (8, .int 1), (7, .int (nI (k % 5))), (6, .int (nI ((k / 5) % 5))), (5, .int (nI ((k / 25) % 5))), (4, .int (nI k)), (3, .int Mo), (0, .ref (ad 0)), (1, .int i)]) hx hb dX0_rings_191 rfl hl (by decide) rfl (fun ls hl => ?_)
                                    refine lv_iload hx hb dX0_rings_192 (lv_at hl 1 rfl) ?_
                                    refine lv_istore_n (lv' := [(3, .int (-4)), (2, .int (nI k)), (9, .int (-4)), (8, .int 1), (7, .int (nI (k % 5))), (6, .int (nI ((k / 5) % 5))), (5, .int (nI ((k / 25) % 5))), (4, .int (nI k)), (0, .ref (ad 0)), (1, .int i)]) hx hb dX0_rings_194 rfl hl (by decide) rfl (fun ls hl => ?_)
                                    refine lv_iinc (v := (nI (k + 1))) (lv' := [(4, .int (nI (k + 1))), (3, .int (-4)), (2, .int (nI k)), (9, .int (-4)), (8, .int 1), (7, .int (nI (k % 5))), (6, .int (nI ((k / 5) % 5))), (5, .int (nI ((k / 25) % 5))), (0, .ref (ad 0)), (1, .int i)]) hx hb dX0_rings_195 hl (k := 7) rfl (mi_add rfl rfl) (by decide) rfl (fun ls hl => ?_)
                                    refine lv_goto (tgt := 19) hx hb dX0_rings_198 (by decide) ?_
                                    exact ih19  (k + 1) (nI k) (-4) (by omega) (by rw [fmx, ← hfm, show rgS σ np nc ld k = (-4) from by unfold rgS; rw [if_neg (by omega), if_neg (by omega)]]; dsimp only; rw [if_pos (Int32.not_le.mp c_46)]) (by omega) ls (lv_sub hl [0, 1, 2, 8, 9] rfl)
                                · have c_45 : ¬ (nc (k % 5) = 0) := bi_f c_45
                                  refine lv_aload_n hx hb dX0_rings_166 rfl (lv_at hl 7 rfl) ?_
                                  refine lv_iload hx hb dX0_rings_167 (lv_at hl 3 rfl) ?_
                                  refine lv_iload hx hb dX0_rings_169 (lv_at hl 2 rfl) ?_
                                  refine lv_iload hx hb dX0_rings_171 (lv_at hl 1 rfl) ?_
                                  refine vp_callSi (W.runV (As := [.int (nI ((k / 25) % 5)), .int (nI ((k / 5) % 5)), .int (nI (k % 5))]) (rest := []) ⟨hx, hb, hml, hown, hts⟩ (mt_X0_savedIn l D dA rr xs ad N hA σ (nI ((k / 25) % 5)) (nI ((k / 5) % 5)) (nI (k % 5)) np nc ld hF ((ik_nat rfl (by omega)).mpr c_16) ((ik_nat rfl (by omega)).mpr c_20) (Or.inr ((ik_nat rfl (by omega)).mpr c_28)) (by rw [tn_nI (by omega)]; omega) (by rw [tn_nI (by omega)]; omega) (fun _ => by rw [tn_nI (by omega)]; omega)) (cwV 3 hts (lw_V q525 q527 qs13 q45 q528) rfl rfl rfl (by decide +kernel) ⟨Nat.le_of_ble_eq_true rfl, Nat.le_of_ble_eq_true rfl⟩) ⟨mPre.blind, m_recv hE hP 0 (xl_n hA (by decide)) rfl rfl, mPre.at hE hP⟩ rfl rfl hl.1 rfl (lv_room (Nat.le_of_ble_eq_true rfl)) dX0_rings_173 ⟨Nat.le_of_ble_eq_true rfl, Nat.le_of_ble_eq_true rfl⟩) (fun r_47 hr_47 => ?_)
                                  rw [tn_nI (n := (k / 25) % 5) (by omega)] at hr_47
                                  rw [tn_nI (n := (k / 5) % 5) (by omega)] at hr_47
                                  subst hr_47
                                  refine lv_goto (tgt := 181) hx hb dX0_rings_176 (by decide) ?_
                                  refine lv_istore (lv' := [(9, .int (savI σ nc ld ((k / 25) % 5) ((k / 5) % 5) (nI (k % 5)))), (8, .int 1), (7, .int (nI (k % 5))), (6, .int (nI ((k / 5) % 5))), (5, .int (nI ((k / 25) % 5))), (4, .int (nI k)), (3, .int Mo), (2, .int B), (0, .ref (ad 0)), (1, .int i)]) hx hb dX0_rings_181 hl (by decide) rfl (fun ls hl => ?_)
                                  refine lv_iload hx hb dX0_rings_183 (lv_at hl 0 rfl) ?_
                                  refine lv_iload_n hx hb dX0_rings_185 rfl (lv_at hl 6 rfl) ?_
                                  refine lv_icmp_le (tgt := 195) hx hb dX0_rings_186 (by decide) (fun c_48 => ?_) (fun c_48 => ?_)
                                  · skip
                                    refine lv_iinc (v := (nI (k + 1))) (lv' := [(4, .int (nI (k + 1))), (9, .int (savI σ nc ld ((k / 25) % 5) ((k / 5) % 5) (nI (k % 5)))), (8, .int 1), (7, .int (nI (k % 5))), (6, .int (nI ((k / 5) % 5))), (5, .int (nI ((k / 25) % 5))), (3, .int Mo), (2, .int B), (0, .ref (ad 0)), (1, .int i)]) hx hb dX0_rings_195 hl (k := 5) rfl (mi_add rfl rfl) (by decide) rfl (fun ls hl => ?_)
                                    refine lv_goto (tgt := 19) hx hb dX0_rings_198 (by decide) ?_
                                    exact ih19  (k + 1) B Mo (by omega) (by rw [fmx, ← hfm, show rgS σ np nc ld k = (savI σ nc ld ((k / 25) % 5) ((k / 5) % 5) (nI (k % 5))) from by unfold rgS; rw [if_neg (by omega), if_pos (by omega)]]; dsimp only; rw [if_neg (Int32.not_lt.mpr c_48)]) (by omega) ls (lv_sub hl [0, 6, 7, 8, 9] rfl)
                                  · skip
                                    refine lv_iload hx hb dX0_rings_189 (lv_at hl 5 rfl) ?_
                                    refine lv_istore_n (lv' := [(2, .int (nI k)), (9, .int (savI σ nc ld ((k / 25) % 5) ((k / 5) % 5) (nI (k % 5)))), (8, .int 1), (7, .int (nI (k % 5))), (6, .int (nI ((k / 5) % 5))), (5, .int (nI ((k / 25) % 5))), (4, .int (nI k)), (3, .int Mo), (0, .ref (ad 0)), (1, .int i)]) hx hb dX0_rings_191 rfl hl (by decide) rfl (fun ls hl => ?_)
                                    refine lv_iload hx hb dX0_rings_192 (lv_at hl 1 rfl) ?_
                                    refine lv_istore_n (lv' := [(3, .int (savI σ nc ld ((k / 25) % 5) ((k / 5) % 5) (nI (k % 5)))), (2, .int (nI k)), (9, .int (savI σ nc ld ((k / 25) % 5) ((k / 5) % 5) (nI (k % 5)))), (8, .int 1), (7, .int (nI (k % 5))), (6, .int (nI ((k / 5) % 5))), (5, .int (nI ((k / 25) % 5))), (4, .int (nI k)), (0, .ref (ad 0)), (1, .int i)]) hx hb dX0_rings_194 rfl hl (by decide) rfl (fun ls hl => ?_)
                                    refine lv_iinc (v := (nI (k + 1))) (lv' := [(4, .int (nI (k + 1))), (3, .int (savI σ nc ld ((k / 25) % 5) ((k / 5) % 5) (nI (k % 5)))), (2, .int (nI k)), (9, .int (savI σ nc ld ((k / 25) % 5) ((k / 5) % 5) (nI (k % 5)))), (8, .int 1), (7, .int (nI (k % 5))), (6, .int (nI ((k / 5) % 5))), (5, .int (nI ((k / 25) % 5))), (0, .ref (ad 0)), (1, .int i)]) hx hb dX0_rings_195 hl (k := 7) rfl (mi_add rfl rfl) (by decide) rfl (fun ls hl => ?_)
                                    refine lv_goto (tgt := 19) hx hb dX0_rings_198 (by decide) ?_
                                    exact ih19  (k + 1) (nI k) (savI σ nc ld ((k / 25) % 5) ((k / 5) % 5) (nI (k % 5))) (by omega) (by rw [fmx, ← hfm, show rgS σ np nc ld k = (savI σ nc ld ((k / 25) % 5) ((k / 5) % 5) (nI (k % 5))) from by unfold rgS; rw [if_neg (by omega), if_pos (by omega)]]; dsimp only; rw [if_pos (Int32.not_le.mp c_48)]) (by omega) ls (lv_sub hl [0, 1, 2, 8, 9] rfl)
          · have nc_14 : k < 125 := mi_nle rfl rfl (by omega) (by omega) c_14
            refine lv_iload hx hb dX0_rings_51 (lv_at hl 2 rfl) ?_
            refine lv_iconst (v := 5) hx hb dX0_rings_53 (by decide) ?_
            refine lv_irem hx hb dX0_rings_54 (by decide) ?_
            refine lv_if_ne (tgt := 63) hx hb dX0_rings_55 (by decide) (fun c_49 => ?_) (fun c_49 => ?_)
            · have nc_49 : k % 5 ≠ 0 := mi_ne (mi_rem (a := k) (b := 5) rfl rfl (by omega) (by omega) (by omega)) rfl (by omega) (by omega) c_49
              refine lv_iload hx hb dX0_rings_63 (lv_at hl 1 rfl) ?_
              refine lv_goto (tgt := 72) hx hb dX0_rings_65 (by decide) ?_
              refine lv_istore (lv' := [(7, .int (nI ((k / 25) % 5))), (6, .int (nI ((k / 5) % 5))), (5, .int (nI ((k / 25) % 5))), (4, .int (nI k)), (3, .int Mo), (2, .int B), (0, .ref (ad 0)), (1, .int i)]) hx hb dX0_rings_72 hl (by decide) rfl (fun ls hl => ?_)
              refine lv_aload_n hx hb dX0_rings_74 rfl (lv_at hl 6 rfl) ?_
              refine lv_iload hx hb dX0_rings_75 (lv_at hl 2 rfl) ?_
              refine vp_callSi (W.runV (As := [.int (nI ((k / 25) % 5))]) (rest := []) ⟨hx, hb, hml, hown, hts⟩ (mt_X0_isPerson l D dA rr xs ad N hA σ (nI ((k / 25) % 5)) np hF.n hF.n5) (cwV 1 hts (lw_V q355 q357 qs2 q45 q358) rfl rfl rfl (by decide +kernel) ⟨Nat.le_of_ble_eq_true rfl, Nat.le_of_ble_eq_true rfl⟩) ⟨mPre.blind, m_recv hE hP 0 (xl_n hA (by decide)) rfl rfl, mPre.at hE hP⟩ rfl rfl hl.1 rfl (lv_room (Nat.le_of_ble_eq_true rfl)) dX0_rings_77 ⟨Nat.le_of_ble_eq_true rfl, Nat.le_of_ble_eq_true rfl⟩) (fun r_50 hr_50 => ?_)
              subst hr_50
              refine lv_rwi (bi_c (ik_nat rfl (by omega))) ?_
              refine lv_if_eq (tgt := 131) hx hb dX0_rings_80 (by decide) (fun c_51 => ?_) (fun c_51 => ?_)
              · have c_51 : ¬ (((k / 25) % 5) < np) := bi_f c_51
                refine lv_iconst (v := 0) hx hb dX0_rings_131 (by decide) ?_
                refine lv_istore (lv' := [(8, .int 0), (7, .int (nI ((k / 25) % 5))), (6, .int (nI ((k / 5) % 5))), (5, .int (nI ((k / 25) % 5))), (4, .int (nI k)), (3, .int Mo), (2, .int B), (0, .ref (ad 0)), (1, .int i)]) hx hb dX0_rings_132 hl (by decide) rfl (fun ls hl => ?_)
                refine lv_iload hx hb dX0_rings_134 (lv_at hl 0 rfl) ?_
                refine lv_if_eq (tgt := 179) hx hb dX0_rings_136 (by decide) (fun c_52 => ?_) (fun c_52 => ?_)
                · skip
                  refine lv_bipush (v := (-4)) hx hb dX0_rings_179 (by decide) ?_
                  refine lv_istore (lv' := [(9, .int (-4)), (8, .int 0), (7, .int (nI ((k / 25) % 5))), (6, .int (nI ((k / 5) % 5))), (5, .int (nI ((k / 25) % 5))), (4, .int (nI k)), (3, .int Mo), (2, .int B), (0, .ref (ad 0)), (1, .int i)]) hx hb dX0_rings_181 hl (by decide) rfl (fun ls hl => ?_)
                  refine lv_iload hx hb dX0_rings_183 (lv_at hl 0 rfl) ?_
                  refine lv_iload_n hx hb dX0_rings_185 rfl (lv_at hl 6 rfl) ?_
                  refine lv_icmp_le (tgt := 195) hx hb dX0_rings_186 (by decide) (fun c_53 => ?_) (fun c_53 => ?_)
                  · skip
                    refine lv_iinc (v := (nI (k + 1))) (lv' := [(4, .int (nI (k + 1))), (9, .int (-4)), (8, .int 0), (7, .int (nI ((k / 25) % 5))), (6, .int (nI ((k / 5) % 5))), (5, .int (nI ((k / 25) % 5))), (3, .int Mo), (2, .int B), (0, .ref (ad 0)), (1, .int i)]) hx hb dX0_rings_195 hl (k := 5) rfl (mi_add rfl rfl) (by decide) rfl (fun ls hl => ?_)
                    refine lv_goto (tgt := 19) hx hb dX0_rings_198 (by decide) ?_
                    exact ih19  (k + 1) B Mo (by omega) (by rw [fmx, ← hfm, show rgS σ np nc ld k = (-4) from by unfold rgS; rw [if_pos (by omega), if_neg (by omega)]]; dsimp only; rw [if_neg (Int32.not_lt.mpr c_53)]) (by omega) ls (lv_sub hl [0, 6, 7, 8, 9] rfl)
                  · skip
                    refine lv_iload hx hb dX0_rings_189 (lv_at hl 5 rfl) ?_
                    refine lv_istore_n (lv' := [(2, .int (nI k)), (9, .int (-4)), (8, .int 0), (7, .int (nI ((k / 25) % 5))), (6, .int (nI ((k / 5) % 5))), (5, .int (nI ((k / 25) % 5))), (4, .int (nI k)), (3, .int Mo), (0, .ref (ad 0)), (1, .int i)]) hx hb dX0_rings_191 rfl hl (by decide) rfl (fun ls hl => ?_)
                    refine lv_iload hx hb dX0_rings_192 (lv_at hl 1 rfl) ?_
                    refine lv_istore_n (lv' := [(3, .int (-4)), (2, .int (nI k)), (9, .int (-4)), (8, .int 0), (7, .int (nI ((k / 25) % 5))), (6, .int (nI ((k / 5) % 5))), (5, .int (nI ((k / 25) % 5))), (4, .int (nI k)), (0, .ref (ad 0)), (1, .int i)]) hx hb dX0_rings_194 rfl hl (by decide) rfl (fun ls hl => ?_)
                    refine lv_iinc (v := (nI (k + 1))) (lv' := [(4, .int (nI (k + 1))), (3, .int (-4)), (2, .int (nI k)), (9, .int (-4)), (8, .int 0), (7, .int (nI ((k / 25) % 5))), (6, .int (nI ((k / 5) % 5))), (5, .int (nI ((k / 25) % 5))), (0, .ref (ad 0)), (1, .int i)]) hx hb dX0_rings_195 hl (k := 7) rfl (mi_add rfl rfl) (by decide) rfl (fun ls hl => ?_)
                    refine lv_goto (tgt := 19) hx hb dX0_rings_198 (by decide) ?_
                    exact ih19  (k + 1) (nI k) (-4) (by omega) (by rw [fmx, ← hfm, show rgS σ np nc ld k = (-4) from by unfold rgS; rw [if_pos (by omega), if_neg (by omega)]]; dsimp only; rw [if_pos (Int32.not_le.mp c_53)]) (by omega) ls (lv_sub hl [0, 1, 2, 8, 9] rfl)
                · skip
                  exact absurd c_52 (by decide)
              · have c_51 : ((k / 25) % 5) < np := bi_t c_51
                have c_51_m := hF.m c_51
                have c_51_8 := hF.m8 c_51
                refine lv_aload_n hx hb dX0_rings_83 rfl (lv_at hl 6 rfl) ?_
                refine lv_iload hx hb dX0_rings_84 (lv_at hl 1 rfl) ?_
                refine vp_callSi (W.runV (As := [.int (nI ((k / 5) % 5))]) (rest := []) ⟨hx, hb, hml, hown, hts⟩ (mt_X0_isPerson l D dA rr xs ad N hA σ (nI ((k / 5) % 5)) np hF.n hF.n5) (cwV 1 hts (lw_V q355 q357 qs2 q45 q358) rfl rfl rfl (by decide +kernel) ⟨Nat.le_of_ble_eq_true rfl, Nat.le_of_ble_eq_true rfl⟩) ⟨mPre.blind, m_recv hE hP 0 (xl_n hA (by decide)) rfl rfl, mPre.at hE hP⟩ rfl rfl hl.1 rfl (lv_room (Nat.le_of_ble_eq_true rfl)) dX0_rings_86 ⟨Nat.le_of_ble_eq_true rfl, Nat.le_of_ble_eq_true rfl⟩) (fun r_54 hr_54 => ?_)
                subst hr_54
                refine lv_rwi (bi_c (ik_nat rfl (by omega))) ?_
                refine lv_if_eq (tgt := 131) hx hb dX0_rings_89 (by decide) (fun c_55 => ?_) (fun c_55 => ?_)
                · have c_55 : ¬ (((k / 5) % 5) < np) := bi_f c_55
                  refine lv_iconst (v := 0) hx hb dX0_rings_131 (by decide) ?_
                  refine lv_istore (lv' := [(8, .int 0), (7, .int (nI ((k / 25) % 5))), (6, .int (nI ((k / 5) % 5))), (5, .int (nI ((k / 25) % 5))), (4, .int (nI k)), (3, .int Mo), (2, .int B), (0, .ref (ad 0)), (1, .int i)]) hx hb dX0_rings_132 hl (by decide) rfl (fun ls hl => ?_)
                  refine lv_iload hx hb dX0_rings_134 (lv_at hl 0 rfl) ?_
                  refine lv_if_eq (tgt := 179) hx hb dX0_rings_136 (by decide) (fun c_56 => ?_) (fun c_56 => ?_)
                  · skip
                    refine lv_bipush (v := (-4)) hx hb dX0_rings_179 (by decide) ?_
                    refine lv_istore (lv' := [(9, .int (-4)), (8, .int 0), (7, .int (nI ((k / 25) % 5))), (6, .int (nI ((k / 5) % 5))), (5, .int (nI ((k / 25) % 5))), (4, .int (nI k)), (3, .int Mo), (2, .int B), (0, .ref (ad 0)), (1, .int i)]) hx hb dX0_rings_181 hl (by decide) rfl (fun ls hl => ?_)
                    refine lv_iload hx hb dX0_rings_183 (lv_at hl 0 rfl) ?_
                    refine lv_iload_n hx hb dX0_rings_185 rfl (lv_at hl 6 rfl) ?_
                    refine lv_icmp_le (tgt := 195) hx hb dX0_rings_186 (by decide) (fun c_57 => ?_) (fun c_57 => ?_)
                    · skip
                      refine lv_iinc (v := (nI (k + 1))) (lv' := [(4, .int (nI (k + 1))), (9, .int (-4)), (8, .int 0), (7, .int (nI ((k / 25) % 5))), (6, .int (nI ((k / 5) % 5))), (5, .int (nI ((k / 25) % 5))), (3, .int Mo), (2, .int B), (0, .ref (ad 0)), (1, .int i)]) hx hb dX0_rings_195 hl (k := 5) rfl (mi_add rfl rfl) (by decide) rfl (fun ls hl => ?_)
                      refine lv_goto (tgt := 19) hx hb dX0_rings_198 (by decide) ?_
                      exact ih19  (k + 1) B Mo (by omega) (by rw [fmx, ← hfm, show rgS σ np nc ld k = (-4) from by unfold rgS; rw [if_pos (by omega), if_neg (by omega)]]; dsimp only; rw [if_neg (Int32.not_lt.mpr c_57)]) (by omega) ls (lv_sub hl [0, 6, 7, 8, 9] rfl)
                    · skip
                      refine lv_iload hx hb dX0_rings_189 (lv_at hl 5 rfl) ?_
                      refine lv_istore_n (lv' := [(2, .int (nI k)), (9, .int (-4)), (8, .int 0), (7, .int (nI ((k / 25) % 5))), (6, .int (nI ((k / 5) % 5))), (5, .int (nI ((k / 25) % 5))), (4, .int (nI k)), (3, .int Mo), (0, .ref (ad 0)), (1, .int i)]) hx hb dX0_rings_191 rfl hl (by decide) rfl (fun ls hl => ?_)
                      refine lv_iload hx hb dX0_rings_192 (lv_at hl 1 rfl) ?_
                      refine lv_istore_n (lv' := [(3, .int (-4)), (2, .int (nI k)), (9, .int (-4)), (8, .int 0), (7, .int (nI ((k / 25) % 5))), (6, .int (nI ((k / 5) % 5))), (5, .int (nI ((k / 25) % 5))), (4, .int (nI k)), (0, .ref (ad 0)), (1, .int i)]) hx hb dX0_rings_194 rfl hl (by decide) rfl (fun ls hl => ?_)
                      refine lv_iinc (v := (nI (k + 1))) (lv' := [(4, .int (nI (k + 1))), (3, .int (-4)), (2, .int (nI k)), (9, .int (-4)), (8, .int 0), (7, .int (nI ((k / 25) % 5))), (6, .int (nI ((k / 5) % 5))), (5, .int (nI ((k / 25) % 5))), (0, .ref (ad 0)), (1, .int i)]) hx hb dX0_rings_195 hl (k := 7) rfl (mi_add rfl rfl) (by decide) rfl (fun ls hl => ?_)
                      refine lv_goto (tgt := 19) hx hb dX0_rings_198 (by decide) ?_
                      exact ih19  (k + 1) (nI k) (-4) (by omega) (by rw [fmx, ← hfm, show rgS σ np nc ld k = (-4) from by unfold rgS; rw [if_pos (by omega), if_neg (by omega)]]; dsimp only; rw [if_pos (Int32.not_le.mp c_57)]) (by omega) ls (lv_sub hl [0, 1, 2, 8, 9] rfl)
                  · skip
                    exact absurd c_56 (by decide)
                · have c_55 : ((k / 5) % 5) < np := bi_t c_55
                  have c_55_m := hF.m c_55
                  have c_55_8 := hF.m8 c_55
                  refine lv_iload hx hb dX0_rings_92 (lv_at hl 2 rfl) ?_
                  refine lv_iload hx hb dX0_rings_94 (lv_at hl 1 rfl) ?_
                  refine lv_icmp_ge (tgt := 131) hx hb dX0_rings_96 (by decide) (fun c_58 => ?_) (fun c_58 => ?_)
                  · have nc_58 : (k / 5) % 5 ≤ (k / 25) % 5 := mi_le rfl rfl (by omega) (by omega) c_58
                    refine lv_iconst (v := 0) hx hb dX0_rings_131 (by decide) ?_
                    refine lv_istore (lv' := [(8, .int 0), (7, .int (nI ((k / 25) % 5))), (6, .int (nI ((k / 5) % 5))), (5, .int (nI ((k / 25) % 5))), (4, .int (nI k)), (3, .int Mo), (2, .int B), (0, .ref (ad 0)), (1, .int i)]) hx hb dX0_rings_132 hl (by decide) rfl (fun ls hl => ?_)
                    refine lv_iload hx hb dX0_rings_134 (lv_at hl 0 rfl) ?_
                    refine lv_if_eq (tgt := 179) hx hb dX0_rings_136 (by decide) (fun c_59 => ?_) (fun c_59 => ?_)
                    · skip
                      refine lv_bipush (v := (-4)) hx hb dX0_rings_179 (by decide) ?_
                      refine lv_istore (lv' := [(9, .int (-4)), (8, .int 0), (7, .int (nI ((k / 25) % 5))), (6, .int (nI ((k / 5) % 5))), (5, .int (nI ((k / 25) % 5))), (4, .int (nI k)), (3, .int Mo), (2, .int B), (0, .ref (ad 0)), (1, .int i)]) hx hb dX0_rings_181 hl (by decide) rfl (fun ls hl => ?_)
                      refine lv_iload hx hb dX0_rings_183 (lv_at hl 0 rfl) ?_
                      refine lv_iload_n hx hb dX0_rings_185 rfl (lv_at hl 6 rfl) ?_
                      refine lv_icmp_le (tgt := 195) hx hb dX0_rings_186 (by decide) (fun c_60 => ?_) (fun c_60 => ?_)
                      · skip
                        refine lv_iinc (v := (nI (k + 1))) (lv' := [(4, .int (nI (k + 1))), (9, .int (-4)), (8, .int 0), (7, .int (nI ((k / 25) % 5))), (6, .int (nI ((k / 5) % 5))), (5, .int (nI ((k / 25) % 5))), (3, .int Mo), (2, .int B), (0, .ref (ad 0)), (1, .int i)]) hx hb dX0_rings_195 hl (k := 5) rfl (mi_add rfl rfl) (by decide) rfl (fun ls hl => ?_)
                        refine lv_goto (tgt := 19) hx hb dX0_rings_198 (by decide) ?_
                        exact ih19  (k + 1) B Mo (by omega) (by rw [fmx, ← hfm, show rgS σ np nc ld k = (-4) from by unfold rgS; rw [if_pos (by omega), if_neg (by omega)]]; dsimp only; rw [if_neg (Int32.not_lt.mpr c_60)]) (by omega) ls (lv_sub hl [0, 6, 7, 8, 9] rfl)
                      · skip
                        refine lv_iload hx hb dX0_rings_189 (lv_at hl 5 rfl) ?_
                        refine lv_istore_n (lv' := [(2, .int (nI k)), (9, .int (-4)), (8, .int 0), (7, .int (nI ((k / 25) % 5))), (6, .int (nI ((k / 5) % 5))), (5, .int (nI ((k / 25) % 5))), (4, .int (nI k)), (3, .int Mo), (0, .ref (ad 0)), (1, .int i)]) hx hb dX0_rings_191 rfl hl (by decide) rfl (fun ls hl => ?_)
                        refine lv_iload hx hb dX0_rings_192 (lv_at hl 1 rfl) ?_
                        refine lv_istore_n (lv' := [(3, .int (-4)), (2, .int (nI k)), (9, .int (-4)), (8, .int 0), (7, .int (nI ((k / 25) % 5))), (6, .int (nI ((k / 5) % 5))), (5, .int (nI ((k / 25) % 5))), (4, .int (nI k)), (0, .ref (ad 0)), (1, .int i)]) hx hb dX0_rings_194 rfl hl (by decide) rfl (fun ls hl => ?_)
                        refine lv_iinc (v := (nI (k + 1))) (lv' := [(4, .int (nI (k + 1))), (3, .int (-4)), (2, .int (nI k)), (9, .int (-4)), (8, .int 0), (7, .int (nI ((k / 25) % 5))), (6, .int (nI ((k / 5) % 5))), (5, .int (nI ((k / 25) % 5))), (0, .ref (ad 0)), (1, .int i)]) hx hb dX0_rings_195 hl (k := 7) rfl (mi_add rfl rfl) (by decide) rfl (fun ls hl => ?_)
                        refine lv_goto (tgt := 19) hx hb dX0_rings_198 (by decide) ?_
                        exact ih19  (k + 1) (nI k) (-4) (by omega) (by rw [fmx, ← hfm, show rgS σ np nc ld k = (-4) from by unfold rgS; rw [if_pos (by omega), if_neg (by omega)]]; dsimp only; rw [if_pos (Int32.not_le.mp c_60)]) (by omega) ls (lv_sub hl [0, 1, 2, 8, 9] rfl)
                    · skip
                      exact absurd c_59 (by decide)
                  · have nc_58 : (k / 25) % 5 < (k / 5) % 5 := mi_nle rfl rfl (by omega) (by omega) c_58
                    refine lv_iload hx hb dX0_rings_99 (lv_at hl 0 rfl) ?_
                    refine lv_if_lt (tgt := 127) hx hb dX0_rings_101 (by decide) (fun c_61 => ?_) (fun c_61 => ?_)
                    · have nc_61 : (k / 25) % 5 < 0 := mi_lt rfl rfl (by omega) (by omega) c_61
                      exact absurd nc_61 (Nat.not_lt_zero _)
                    · have nc_61 : 0 ≤ (k / 25) % 5 := mi_nlt rfl rfl (by omega) (by omega) c_61
                      refine lv_aload_n hx hb dX0_rings_104 rfl (lv_at hl 6 rfl) ?_
                      refine lv_iload hx hb dX0_rings_105 (lv_at hl 0 rfl) ?_
                      refine vp_callSi (W.runV (As := [.int (nI ((k / 25) % 5))]) (rest := []) ⟨hx, hb, hml, hown, hts⟩ (mt_X0_isPerson l D dA rr xs ad N hA σ (nI ((k / 25) % 5)) np hF.n hF.n5) (cwV 1 hts (lw_V q355 q357 qs2 q45 q358) rfl rfl rfl (by decide +kernel) ⟨Nat.le_of_ble_eq_true rfl, Nat.le_of_ble_eq_true rfl⟩) ⟨mPre.blind, m_recv hE hP 0 (xl_n hA (by decide)) rfl rfl, mPre.at hE hP⟩ rfl rfl hl.1 rfl (lv_room (Nat.le_of_ble_eq_true rfl)) dX0_rings_107 ⟨Nat.le_of_ble_eq_true rfl, Nat.le_of_ble_eq_true rfl⟩) (fun r_62 hr_62 => ?_)
                      subst hr_62
                      refine lv_rwi (bi_c (ik_nat rfl (by omega))) ?_
                      refine lv_if_eq (tgt := 131) hx hb dX0_rings_110 (by decide) (fun c_63 => ?_) (fun c_63 => ?_)
                      · have c_63 : ¬ (((k / 25) % 5) < np) := bi_f c_63
                        exact absurd c_51 c_63
                      · have c_63 : ((k / 25) % 5) < np := bi_t c_63
                        have c_63_m := hF.m c_63
                        have c_63_8 := hF.m8 c_63
                        refine lv_iload hx hb dX0_rings_113 (lv_at hl 2 rfl) ?_
                        refine lv_iload hx hb dX0_rings_115 (lv_at hl 0 rfl) ?_
                        refine lv_icmp_ge (tgt := 131) hx hb dX0_rings_117 (by decide) (fun c_64 => ?_) (fun c_64 => ?_)
                        · have nc_64 : (k / 25) % 5 ≤ (k / 25) % 5 := mi_le rfl rfl (by omega) (by omega) c_64
                          refine lv_iconst (v := 0) hx hb dX0_rings_131 (by decide) ?_
                          refine lv_istore (lv' := [(8, .int 0), (7, .int (nI ((k / 25) % 5))), (6, .int (nI ((k / 5) % 5))), (5, .int (nI ((k / 25) % 5))), (4, .int (nI k)), (3, .int Mo), (2, .int B), (0, .ref (ad 0)), (1, .int i)]) hx hb dX0_rings_132 hl (by decide) rfl (fun ls hl => ?_)
                          refine lv_iload hx hb dX0_rings_134 (lv_at hl 0 rfl) ?_
                          refine lv_if_eq (tgt := 179) hx hb dX0_rings_136 (by decide) (fun c_65 => ?_) (fun c_65 => ?_)
                          · skip
                            refine lv_bipush (v := (-4)) hx hb dX0_rings_179 (by decide) ?_
                            refine lv_istore (lv' := [(9, .int (-4)), (8, .int 0), (7, .int (nI ((k / 25) % 5))), (6, .int (nI ((k / 5) % 5))), (5, .int (nI ((k / 25) % 5))), (4, .int (nI k)), (3, .int Mo), (2, .int B), (0, .ref (ad 0)), (1, .int i)]) hx hb dX0_rings_181 hl (by decide) rfl (fun ls hl => ?_)
                            refine lv_iload hx hb dX0_rings_183 (lv_at hl 0 rfl) ?_
                            refine lv_iload_n hx hb dX0_rings_185 rfl (lv_at hl 6 rfl) ?_
                            refine lv_icmp_le (tgt := 195) hx hb dX0_rings_186 (by decide) (fun c_66 => ?_) (fun c_66 => ?_)
                            · skip
                              refine lv_iinc (v := (nI (k + 1))) (lv' := [(4, .int (nI (k + 1))), (9, .int (-4)), (8, .int 0), (7, .int (nI ((k / 25) % 5))), (6, .int (nI ((k / 5) % 5))), (5, .int (nI ((k / 25) % 5))), (3, .int Mo), (2, .int B), (0, .ref (ad 0)), (1, .int i)]) hx hb dX0_rings_195 hl (k := 5) rfl (mi_add rfl rfl) (by decide) rfl (fun ls hl => ?_)
                              refine lv_goto (tgt := 19) hx hb dX0_rings_198 (by decide) ?_
                              exact ih19  (k + 1) B Mo (by omega) (by rw [fmx, ← hfm, show rgS σ np nc ld k = (-4) from by unfold rgS; rw [if_pos (by omega), if_neg (by omega)]]; dsimp only; rw [if_neg (Int32.not_lt.mpr c_66)]) (by omega) ls (lv_sub hl [0, 6, 7, 8, 9] rfl)
                            · skip
                              refine lv_iload hx hb dX0_rings_189 (lv_at hl 5 rfl) ?_
                              refine lv_istore_n (lv' := [(2, .int (nI k)), (9, .int (-4)), (8, .int 0), (7, .int (nI ((k / 25) % 5))), (6, .int (nI ((k / 5) % 5))), (5, .int (nI ((k / 25) % 5))), (4, .int (nI k)), (3, .int Mo), (0, .ref (ad 0)), (1, .int i)]) hx hb dX0_rings_191 rfl hl (by decide) rfl (fun ls hl => ?_)
                              refine lv_iload hx hb dX0_rings_192 (lv_at hl 1 rfl) ?_
                              refine lv_istore_n (lv' := [(3, .int (-4)), (2, .int (nI k)), (9, .int (-4)), (8, .int 0), (7, .int (nI ((k / 25) % 5))), (6, .int (nI ((k / 5) % 5))), (5, .int (nI ((k / 25) % 5))), (4, .int (nI k)), (0, .ref (ad 0)), (1, .int i)]) hx hb dX0_rings_194 rfl hl (by decide) rfl (fun ls hl => ?_)
                              refine lv_iinc (v := (nI (k + 1))) (lv' := [(4, .int (nI (k + 1))), (3, .int (-4)), (2, .int (nI k)), (9, .int (-4)), (8, .int 0), (7, .int (nI ((k / 25) % 5))), (6, .int (nI ((k / 5) % 5))), (5, .int (nI ((k / 25) % 5))), (0, .ref (ad 0)), (1, .int i)]) hx hb dX0_rings_195 hl (k := 7) rfl (mi_add rfl rfl) (by decide) rfl (fun ls hl => ?_)
                              refine lv_goto (tgt := 19) hx hb dX0_rings_198 (by decide) ?_
                              exact ih19  (k + 1) (nI k) (-4) (by omega) (by rw [fmx, ← hfm, show rgS σ np nc ld k = (-4) from by unfold rgS; rw [if_pos (by omega), if_neg (by omega)]]; dsimp only; rw [if_pos (Int32.not_le.mp c_66)]) (by omega) ls (lv_sub hl [0, 1, 2, 8, 9] rfl)
                          · skip
                            exact absurd c_65 (by decide)
                        · have nc_64 : (k / 25) % 5 < (k / 25) % 5 := mi_nle rfl rfl (by omega) (by omega) c_64
                          exact absurd nc_64 (Nat.lt_irrefl _)
            · have nc_49 : k % 5 = 0 := mi_eq (mi_rem (a := k) (b := 5) rfl rfl (by omega) (by omega) (by omega)) rfl (by omega) (by omega) c_49
              refine lv_bipush (v := (-4)) hx hb dX0_rings_58 (by decide) ?_
              refine lv_goto (tgt := 72) hx hb dX0_rings_60 (by decide) ?_
              refine lv_istore (lv' := [(7, .int (-4)), (6, .int (nI ((k / 5) % 5))), (5, .int (nI ((k / 25) % 5))), (4, .int (nI k)), (3, .int Mo), (2, .int B), (0, .ref (ad 0)), (1, .int i)]) hx hb dX0_rings_72 hl (by decide) rfl (fun ls hl => ?_)
              refine lv_aload_n hx hb dX0_rings_74 rfl (lv_at hl 6 rfl) ?_
              refine lv_iload hx hb dX0_rings_75 (lv_at hl 2 rfl) ?_
              refine vp_callSi (W.runV (As := [.int (nI ((k / 25) % 5))]) (rest := []) ⟨hx, hb, hml, hown, hts⟩ (mt_X0_isPerson l D dA rr xs ad N hA σ (nI ((k / 25) % 5)) np hF.n hF.n5) (cwV 1 hts (lw_V q355 q357 qs2 q45 q358) rfl rfl rfl (by decide +kernel) ⟨Nat.le_of_ble_eq_true rfl, Nat.le_of_ble_eq_true rfl⟩) ⟨mPre.blind, m_recv hE hP 0 (xl_n hA (by decide)) rfl rfl, mPre.at hE hP⟩ rfl rfl hl.1 rfl (lv_room (Nat.le_of_ble_eq_true rfl)) dX0_rings_77 ⟨Nat.le_of_ble_eq_true rfl, Nat.le_of_ble_eq_true rfl⟩) (fun r_67 hr_67 => ?_)
              subst hr_67
              refine lv_rwi (bi_c (ik_nat rfl (by omega))) ?_
              refine lv_if_eq (tgt := 131) hx hb dX0_rings_80 (by decide) (fun c_68 => ?_) (fun c_68 => ?_)
              · have c_68 : ¬ (((k / 25) % 5) < np) := bi_f c_68
                refine lv_iconst (v := 0) hx hb dX0_rings_131 (by decide) ?_
                refine lv_istore (lv' := [(8, .int 0), (7, .int (-4)), (6, .int (nI ((k / 5) % 5))), (5, .int (nI ((k / 25) % 5))), (4, .int (nI k)), (3, .int Mo), (2, .int B), (0, .ref (ad 0)), (1, .int i)]) hx hb dX0_rings_132 hl (by decide) rfl (fun ls hl => ?_)
                refine lv_iload hx hb dX0_rings_134 (lv_at hl 0 rfl) ?_
                refine lv_if_eq (tgt := 179) hx hb dX0_rings_136 (by decide) (fun c_69 => ?_) (fun c_69 => ?_)
                · skip
                  refine lv_bipush (v := (-4)) hx hb dX0_rings_179 (by decide) ?_
                  refine lv_istore (lv' := [(9, .int (-4)), (8, .int 0), (7, .int (-4)), (6, .int (nI ((k / 5) % 5))), (5, .int (nI ((k / 25) % 5))), (4, .int (nI k)), (3, .int Mo), (2, .int B), (0, .ref (ad 0)), (1, .int i)]) hx hb dX0_rings_181 hl (by decide) rfl (fun ls hl => ?_)
                  refine lv_iload hx hb dX0_rings_183 (lv_at hl 0 rfl) ?_
                  refine lv_iload_n hx hb dX0_rings_185 rfl (lv_at hl 6 rfl) ?_
                  refine lv_icmp_le (tgt := 195) hx hb dX0_rings_186 (by decide) (fun c_70 => ?_) (fun c_70 => ?_)
                  · skip
                    refine lv_iinc (v := (nI (k + 1))) (lv' := [(4, .int (nI (k + 1))), (9, .int (-4)), (8, .int 0), (7, .int (-4)), (6, .int (nI ((k / 5) % 5))), (5, .int (nI ((k / 25) % 5))), (3, .int Mo), (2, .int B), (0, .ref (ad 0)), (1, .int i)]) hx hb dX0_rings_195 hl (k := 5) rfl (mi_add rfl rfl) (by decide) rfl (fun ls hl => ?_)
                    refine lv_goto (tgt := 19) hx hb dX0_rings_198 (by decide) ?_
                    exact ih19  (k + 1) B Mo (by omega) (by rw [fmx, ← hfm, show rgS σ np nc ld k = (-4) from by unfold rgS; rw [if_pos (by omega), if_neg (by omega)]]; dsimp only; rw [if_neg (Int32.not_lt.mpr c_70)]) (by omega) ls (lv_sub hl [0, 6, 7, 8, 9] rfl)
                  · skip
                    refine lv_iload hx hb dX0_rings_189 (lv_at hl 5 rfl) ?_
                    refine lv_istore_n (lv' := [(2, .int (nI k)), (9, .int (-4)), (8, .int 0), (7, .int (-4)), (6, .int (nI ((k / 5) % 5))), (5, .int (nI ((k / 25) % 5))), (4, .int (nI k)), (3, .int Mo), (0, .ref (ad 0)), (1, .int i)]) hx hb dX0_rings_191 rfl hl (by decide) rfl (fun ls hl => ?_)
                    refine lv_iload hx hb dX0_rings_192 (lv_at hl 1 rfl) ?_
                    refine lv_istore_n (lv' := [(3, .int (-4)), (2, .int (nI k)), (9, .int (-4)), (8, .int 0), (7, .int (-4)), (6, .int (nI ((k / 5) % 5))), (5, .int (nI ((k / 25) % 5))), (4, .int (nI k)), (0, .ref (ad 0)), (1, .int i)]) hx hb dX0_rings_194 rfl hl (by decide) rfl (fun ls hl => ?_)
                    refine lv_iinc (v := (nI (k + 1))) (lv' := [(4, .int (nI (k + 1))), (3, .int (-4)), (2, .int (nI k)), (9, .int (-4)), (8, .int 0), (7, .int (-4)), (6, .int (nI ((k / 5) % 5))), (5, .int (nI ((k / 25) % 5))), (0, .ref (ad 0)), (1, .int i)]) hx hb dX0_rings_195 hl (k := 7) rfl (mi_add rfl rfl) (by decide) rfl (fun ls hl => ?_)
                    refine lv_goto (tgt := 19) hx hb dX0_rings_198 (by decide) ?_
                    exact ih19  (k + 1) (nI k) (-4) (by omega) (by rw [fmx, ← hfm, show rgS σ np nc ld k = (-4) from by unfold rgS; rw [if_pos (by omega), if_neg (by omega)]]; dsimp only; rw [if_pos (Int32.not_le.mp c_70)]) (by omega) ls (lv_sub hl [0, 1, 2, 8, 9] rfl)
                · skip
                  exact absurd c_69 (by decide)
              · have c_68 : ((k / 25) % 5) < np := bi_t c_68
                have c_68_m := hF.m c_68
                have c_68_8 := hF.m8 c_68
                refine lv_aload_n hx hb dX0_rings_83 rfl (lv_at hl 6 rfl) ?_
                refine lv_iload hx hb dX0_rings_84 (lv_at hl 1 rfl) ?_
                refine vp_callSi (W.runV (As := [.int (nI ((k / 5) % 5))]) (rest := []) ⟨hx, hb, hml, hown, hts⟩ (mt_X0_isPerson l D dA rr xs ad N hA σ (nI ((k / 5) % 5)) np hF.n hF.n5) (cwV 1 hts (lw_V q355 q357 qs2 q45 q358) rfl rfl rfl (by decide +kernel) ⟨Nat.le_of_ble_eq_true rfl, Nat.le_of_ble_eq_true rfl⟩) ⟨mPre.blind, m_recv hE hP 0 (xl_n hA (by decide)) rfl rfl, mPre.at hE hP⟩ rfl rfl hl.1 rfl (lv_room (Nat.le_of_ble_eq_true rfl)) dX0_rings_86 ⟨Nat.le_of_ble_eq_true rfl, Nat.le_of_ble_eq_true rfl⟩) (fun r_71 hr_71 => ?_)
                subst hr_71
                refine lv_rwi (bi_c (ik_nat rfl (by omega))) ?_
                refine lv_if_eq (tgt := 131) hx hb dX0_rings_89 (by decide) (fun c_72 => ?_) (fun c_72 => ?_)
                · have c_72 : ¬ (((k / 5) % 5) < np) := bi_f c_72
                  refine lv_iconst (v := 0) hx hb dX0_rings_131 (by decide) ?_
                  refine lv_istore (lv' := [(8, .int 0), (7, .int (-4)), (6, .int (nI ((k / 5) % 5))), (5, .int (nI ((k / 25) % 5))), (4, .int (nI k)), (3, .int Mo), (2, .int B), (0, .ref (ad 0)), (1, .int i)]) hx hb dX0_rings_132 hl (by decide) rfl (fun ls hl => ?_)
                  refine lv_iload hx hb dX0_rings_134 (lv_at hl 0 rfl) ?_
                  refine lv_if_eq (tgt := 179) hx hb dX0_rings_136 (by decide) (fun c_73 => ?_) (fun c_73 => ?_)
                  · skip
                    refine lv_bipush (v := (-4)) hx hb dX0_rings_179 (by decide) ?_
                    refine lv_istore (lv' := [(9, .int (-4)), (8, .int 0), (7, .int (-4)), (6, .int (nI ((k / 5) % 5))), (5, .int (nI ((k / 25) % 5))), (4, .int (nI k)), (3, .int Mo), (2, .int B), (0, .ref (ad 0)), (1, .int i)]) hx hb dX0_rings_181 hl (by decide) rfl (fun ls hl => ?_)
                    refine lv_iload hx hb dX0_rings_183 (lv_at hl 0 rfl) ?_
                    refine lv_iload_n hx hb dX0_rings_185 rfl (lv_at hl 6 rfl) ?_
                    refine lv_icmp_le (tgt := 195) hx hb dX0_rings_186 (by decide) (fun c_74 => ?_) (fun c_74 => ?_)
                    · skip
                      refine lv_iinc (v := (nI (k + 1))) (lv' := [(4, .int (nI (k + 1))), (9, .int (-4)), (8, .int 0), (7, .int (-4)), (6, .int (nI ((k / 5) % 5))), (5, .int (nI ((k / 25) % 5))), (3, .int Mo), (2, .int B), (0, .ref (ad 0)), (1, .int i)]) hx hb dX0_rings_195 hl (k := 5) rfl (mi_add rfl rfl) (by decide) rfl (fun ls hl => ?_)
                      refine lv_goto (tgt := 19) hx hb dX0_rings_198 (by decide) ?_
                      exact ih19  (k + 1) B Mo (by omega) (by rw [fmx, ← hfm, show rgS σ np nc ld k = (-4) from by unfold rgS; rw [if_pos (by omega), if_neg (by omega)]]; dsimp only; rw [if_neg (Int32.not_lt.mpr c_74)]) (by omega) ls (lv_sub hl [0, 6, 7, 8, 9] rfl)
                    · skip
                      refine lv_iload hx hb dX0_rings_189 (lv_at hl 5 rfl) ?_
                      refine lv_istore_n (lv' := [(2, .int (nI k)), (9, .int (-4)), (8, .int 0), (7, .int (-4)), (6, .int (nI ((k / 5) % 5))), (5, .int (nI ((k / 25) % 5))), (4, .int (nI k)), (3, .int Mo), (0, .ref (ad 0)), (1, .int i)]) hx hb dX0_rings_191 rfl hl (by decide) rfl (fun ls hl => ?_)
                      refine lv_iload hx hb dX0_rings_192 (lv_at hl 1 rfl) ?_
                      refine lv_istore_n (lv' := [(3, .int (-4)), (2, .int (nI k)), (9, .int (-4)), (8, .int 0), (7, .int (-4)), (6, .int (nI ((k / 5) % 5))), (5, .int (nI ((k / 25) % 5))), (4, .int (nI k)), (0, .ref (ad 0)), (1, .int i)]) hx hb dX0_rings_194 rfl hl (by decide) rfl (fun ls hl => ?_)
                      refine lv_iinc (v := (nI (k + 1))) (lv' := [(4, .int (nI (k + 1))), (3, .int (-4)), (2, .int (nI k)), (9, .int (-4)), (8, .int 0), (7, .int (-4)), (6, .int (nI ((k / 5) % 5))), (5, .int (nI ((k / 25) % 5))), (0, .ref (ad 0)), (1, .int i)]) hx hb dX0_rings_195 hl (k := 7) rfl (mi_add rfl rfl) (by decide) rfl (fun ls hl => ?_)
                      refine lv_goto (tgt := 19) hx hb dX0_rings_198 (by decide) ?_
                      exact ih19  (k + 1) (nI k) (-4) (by omega) (by rw [fmx, ← hfm, show rgS σ np nc ld k = (-4) from by unfold rgS; rw [if_pos (by omega), if_neg (by omega)]]; dsimp only; rw [if_pos (Int32.not_le.mp c_74)]) (by omega) ls (lv_sub hl [0, 1, 2, 8, 9] rfl)
                  · skip
                    exact absurd c_73 (by decide)
                · have c_72 : ((k / 5) % 5) < np := bi_t c_72
                  have c_72_m := hF.m c_72
                  have c_72_8 := hF.m8 c_72
                  refine lv_iload hx hb dX0_rings_92 (lv_at hl 2 rfl) ?_
                  refine lv_iload hx hb dX0_rings_94 (lv_at hl 1 rfl) ?_
                  refine lv_icmp_ge (tgt := 131) hx hb dX0_rings_96 (by decide) (fun c_75 => ?_) (fun c_75 => ?_)
                  · have nc_75 : (k / 5) % 5 ≤ (k / 25) % 5 := mi_le rfl rfl (by omega) (by omega) c_75
                    refine lv_iconst (v := 0) hx hb dX0_rings_131 (by decide) ?_
                    refine lv_istore (lv' := [(8, .int 0), (7, .int (-4)), (6, .int (nI ((k / 5) % 5))), (5, .int (nI ((k / 25) % 5))), (4, .int (nI k)), (3, .int Mo), (2, .int B), (0, .ref (ad 0)), (1, .int i)]) hx hb dX0_rings_132 hl (by decide) rfl (fun ls hl => ?_)
                    refine lv_iload hx hb dX0_rings_134 (lv_at hl 0 rfl) ?_
                    refine lv_if_eq (tgt := 179) hx hb dX0_rings_136 (by decide) (fun c_76 => ?_) (fun c_76 => ?_)
                    · skip
                      refine lv_bipush (v := (-4)) hx hb dX0_rings_179 (by decide) ?_
                      refine lv_istore (lv' := [(9, .int (-4)), (8, .int 0), (7, .int (-4)), (6, .int (nI ((k / 5) % 5))), (5, .int (nI ((k / 25) % 5))), (4, .int (nI k)), (3, .int Mo), (2, .int B), (0, .ref (ad 0)), (1, .int i)]) hx hb dX0_rings_181 hl (by decide) rfl (fun ls hl => ?_)
                      refine lv_iload hx hb dX0_rings_183 (lv_at hl 0 rfl) ?_
                      refine lv_iload_n hx hb dX0_rings_185 rfl (lv_at hl 6 rfl) ?_
                      refine lv_icmp_le (tgt := 195) hx hb dX0_rings_186 (by decide) (fun c_77 => ?_) (fun c_77 => ?_)
                      · skip
                        refine lv_iinc (v := (nI (k + 1))) (lv' := [(4, .int (nI (k + 1))), (9, .int (-4)), (8, .int 0), (7, .int (-4)), (6, .int (nI ((k / 5) % 5))), (5, .int (nI ((k / 25) % 5))), (3, .int Mo), (2, .int B), (0, .ref (ad 0)), (1, .int i)]) hx hb dX0_rings_195 hl (k := 5) rfl (mi_add rfl rfl) (by decide) rfl (fun ls hl => ?_)
                        refine lv_goto (tgt := 19) hx hb dX0_rings_198 (by decide) ?_
                        exact ih19  (k + 1) B Mo (by omega) (by rw [fmx, ← hfm, show rgS σ np nc ld k = (-4) from by unfold rgS; rw [if_pos (by omega), if_neg (by omega)]]; dsimp only; rw [if_neg (Int32.not_lt.mpr c_77)]) (by omega) ls (lv_sub hl [0, 6, 7, 8, 9] rfl)
                      · skip
                        refine lv_iload hx hb dX0_rings_189 (lv_at hl 5 rfl) ?_
                        refine lv_istore_n (lv' := [(2, .int (nI k)), (9, .int (-4)), (8, .int 0), (7, .int (-4)), (6, .int (nI ((k / 5) % 5))), (5, .int (nI ((k / 25) % 5))), (4, .int (nI k)), (3, .int Mo), (0, .ref (ad 0)), (1, .int i)]) hx hb dX0_rings_191 rfl hl (by decide) rfl (fun ls hl => ?_)
                        refine lv_iload hx hb dX0_rings_192 (lv_at hl 1 rfl) ?_
                        refine lv_istore_n (lv' := [(3, .int (-4)), (2, .int (nI k)), (9, .int (-4)), (8, .int 0), (7, .int (-4)), (6, .int (nI ((k / 5) % 5))), (5, .int (nI ((k / 25) % 5))), (4, .int (nI k)), (0, .ref (ad 0)), (1, .int i)]) hx hb dX0_rings_194 rfl hl (by decide) rfl (fun ls hl => ?_)
                        refine lv_iinc (v := (nI (k + 1))) (lv' := [(4, .int (nI (k + 1))), (3, .int (-4)), (2, .int (nI k)), (9, .int (-4)), (8, .int 0), (7, .int (-4)), (6, .int (nI ((k / 5) % 5))), (5, .int (nI ((k / 25) % 5))), (0, .ref (ad 0)), (1, .int i)]) hx hb dX0_rings_195 hl (k := 7) rfl (mi_add rfl rfl) (by decide) rfl (fun ls hl => ?_)
                        refine lv_goto (tgt := 19) hx hb dX0_rings_198 (by decide) ?_
                        exact ih19  (k + 1) (nI k) (-4) (by omega) (by rw [fmx, ← hfm, show rgS σ np nc ld k = (-4) from by unfold rgS; rw [if_pos (by omega), if_neg (by omega)]]; dsimp only; rw [if_pos (Int32.not_le.mp c_77)]) (by omega) ls (lv_sub hl [0, 1, 2, 8, 9] rfl)
                    · skip
                      exact absurd c_76 (by decide)
                  · have nc_75 : (k / 25) % 5 < (k / 5) % 5 := mi_nle rfl rfl (by omega) (by omega) c_75
                    refine lv_iload hx hb dX0_rings_99 (lv_at hl 0 rfl) ?_
                    refine lv_if_lt (tgt := 127) hx hb dX0_rings_101 (by decide) (fun c_78 => ?_) (fun c_78 => ?_)
                    · skip
                      refine lv_iconst (v := 1) hx hb dX0_rings_127 (by decide) ?_
                      refine lv_goto (tgt := 132) hx hb dX0_rings_128 (by decide) ?_
                      refine lv_istore (lv' := [(8, .int 1), (7, .int (-4)), (6, .int (nI ((k / 5) % 5))), (5, .int (nI ((k / 25) % 5))), (4, .int (nI k)), (3, .int Mo), (2, .int B), (0, .ref (ad 0)), (1, .int i)]) hx hb dX0_rings_132 hl (by decide) rfl (fun ls hl => ?_)
                      refine lv_iload hx hb dX0_rings_134 (lv_at hl 0 rfl) ?_
                      refine lv_if_eq (tgt := 179) hx hb dX0_rings_136 (by decide) (fun c_79 => ?_) (fun c_79 => ?_)
                      · skip
                        exact absurd c_79 (by decide)
                      · skip
                        refine lv_aload_n hx hb dX0_rings_139 rfl (lv_at hl 7 rfl) ?_
                        refine lv_iload hx hb dX0_rings_140 (lv_at hl 3 rfl) ?_
                        refine vp_callSi (W.runV (As := [.int (nI ((k / 25) % 5))]) (rest := []) ⟨hx, hb, hml, hown, hts⟩ (mt_X0_isBare l D dA rr xs ad N hA σ (nI ((k / 25) % 5)) np nc ld hF (Or.inr ((ik_nat rfl (by omega)).mpr c_68))) (cwV 1 hts (lw_V q521 q523 qs12 q45 q524) rfl rfl rfl (by decide +kernel) ⟨Nat.le_of_ble_eq_true rfl, Nat.le_of_ble_eq_true rfl⟩) ⟨mPre.blind, m_recv hE hP 0 (xl_n hA (by decide)) rfl rfl, mPre.at hE hP⟩ rfl rfl hl.1 rfl (lv_room (Nat.le_of_ble_eq_true rfl)) dX0_rings_142 ⟨Nat.le_of_ble_eq_true rfl, Nat.le_of_ble_eq_true rfl⟩) (fun r_80 hr_80 => ?_)
                        subst hr_80
                        refine lv_rwi (bi_c (bare_nat rfl (by omega) ((ik_nat rfl (by omega)).mpr c_68))) ?_
                        refine lv_if_ne (tgt := 179) hx hb dX0_rings_145 (by decide) (fun c_81 => ?_) (fun c_81 => ?_)
                        · have c_81 : nc ((k / 25) % 5) = 0 := bi_t c_81
                          refine lv_bipush (v := (-4)) hx hb dX0_rings_179 (by decide) ?_
                          refine lv_istore (lv' := [(9, .int (-4)), (8, .int 1), (7, .int (-4)), (6, .int (nI ((k / 5) % 5))), (5, .int (nI ((k / 25) % 5))), (4, .int (nI k)), (3, .int Mo), (2, .int B), (0, .ref (ad 0)), (1, .int i)]) hx hb dX0_rings_181 hl (by decide) rfl (fun ls hl => ?_)
                          refine lv_iload hx hb dX0_rings_183 (lv_at hl 0 rfl) ?_
                          refine lv_iload_n hx hb dX0_rings_185 rfl (lv_at hl 6 rfl) ?_
                          refine lv_icmp_le (tgt := 195) hx hb dX0_rings_186 (by decide) (fun c_82 => ?_) (fun c_82 => ?_)
                          · skip
                            refine lv_iinc (v := (nI (k + 1))) (lv' := [(4, .int (nI (k + 1))), (9, .int (-4)), (8, .int 1), (7, .int (-4)), (6, .int (nI ((k / 5) % 5))), (5, .int (nI ((k / 25) % 5))), (3, .int Mo), (2, .int B), (0, .ref (ad 0)), (1, .int i)]) hx hb dX0_rings_195 hl (k := 5) rfl (mi_add rfl rfl) (by decide) rfl (fun ls hl => ?_)
                            refine lv_goto (tgt := 19) hx hb dX0_rings_198 (by decide) ?_
                            exact ih19  (k + 1) B Mo (by omega) (by rw [fmx, ← hfm, show rgS σ np nc ld k = (-4) from by unfold rgS; rw [if_pos (by omega), if_neg (by omega)]]; dsimp only; rw [if_neg (Int32.not_lt.mpr c_82)]) (by omega) ls (lv_sub hl [0, 6, 7, 8, 9] rfl)
                          · skip
                            refine lv_iload hx hb dX0_rings_189 (lv_at hl 5 rfl) ?_
                            refine lv_istore_n (lv' := [(2, .int (nI k)), (9, .int (-4)), (8, .int 1), (7, .int (-4)), (6, .int (nI ((k / 5) % 5))), (5, .int (nI ((k / 25) % 5))), (4, .int (nI k)), (3, .int Mo), (0, .ref (ad 0)), (1, .int i)]) hx hb dX0_rings_191 rfl hl (by decide) rfl (fun ls hl => ?_)
                            refine lv_iload hx hb dX0_rings_192 (lv_at hl 1 rfl) ?_
                            refine lv_istore_n (lv' := [(3, .int (-4)), (2, .int (nI k)), (9, .int (-4)), (8, .int 1), (7, .int (-4)), (6, .int (nI ((k / 5) % 5))), (5, .int (nI ((k / 25) % 5))), (4, .int (nI k)), (0, .ref (ad 0)), (1, .int i)]) hx hb dX0_rings_194 rfl hl (by decide) rfl (fun ls hl => ?_)
                            refine lv_iinc (v := (nI (k + 1))) (lv' := [(4, .int (nI (k + 1))), (3, .int (-4)), (2, .int (nI k)), (9, .int (-4)), (8, .int 1), (7, .int (-4)), (6, .int (nI ((k / 5) % 5))), (5, .int (nI ((k / 25) % 5))), (0, .ref (ad 0)), (1, .int i)]) hx hb dX0_rings_195 hl (k := 7) rfl (mi_add rfl rfl) (by decide) rfl (fun ls hl => ?_)
                            refine lv_goto (tgt := 19) hx hb dX0_rings_198 (by decide) ?_
                            exact ih19  (k + 1) (nI k) (-4) (by omega) (by rw [fmx, ← hfm, show rgS σ np nc ld k = (-4) from by unfold rgS; rw [if_pos (by omega), if_neg (by omega)]]; dsimp only; rw [if_pos (Int32.not_le.mp c_82)]) (by omega) ls (lv_sub hl [0, 1, 2, 8, 9] rfl)
                        · have c_81 : ¬ (nc ((k / 25) % 5) = 0) := bi_f c_81
                          refine lv_aload_n hx hb dX0_rings_148 rfl (lv_at hl 7 rfl) ?_
                          refine lv_iload hx hb dX0_rings_149 (lv_at hl 2 rfl) ?_
                          refine vp_callSi (W.runV (As := [.int (nI ((k / 5) % 5))]) (rest := []) ⟨hx, hb, hml, hown, hts⟩ (mt_X0_isBare l D dA rr xs ad N hA σ (nI ((k / 5) % 5)) np nc ld hF (Or.inr ((ik_nat rfl (by omega)).mpr c_72))) (cwV 1 hts (lw_V q521 q523 qs12 q45 q524) rfl rfl rfl (by decide +kernel) ⟨Nat.le_of_ble_eq_true rfl, Nat.le_of_ble_eq_true rfl⟩) ⟨mPre.blind, m_recv hE hP 0 (xl_n hA (by decide)) rfl rfl, mPre.at hE hP⟩ rfl rfl hl.1 rfl (lv_room (Nat.le_of_ble_eq_true rfl)) dX0_rings_151 ⟨Nat.le_of_ble_eq_true rfl, Nat.le_of_ble_eq_true rfl⟩) (fun r_83 hr_83 => ?_)
                          subst hr_83
                          refine lv_rwi (bi_c (bare_nat rfl (by omega) ((ik_nat rfl (by omega)).mpr c_72))) ?_
                          refine lv_if_ne (tgt := 179) hx hb dX0_rings_154 (by decide) (fun c_84 => ?_) (fun c_84 => ?_)
                          · have c_84 : nc ((k / 5) % 5) = 0 := bi_t c_84
                            refine lv_bipush (v := (-4)) hx hb dX0_rings_179 (by decide) ?_
                            refine lv_istore (lv' := [(9, .int (-4)), (8, .int 1), (7, .int (-4)), (6, .int (nI ((k / 5) % 5))), (5, .int (nI ((k / 25) % 5))), (4, .int (nI k)), (3, .int Mo), (2, .int B), (0, .ref (ad 0)), (1, .int i)]) hx hb dX0_rings_181 hl (by decide) rfl (fun ls hl => ?_)
                            refine lv_iload hx hb dX0_rings_183 (lv_at hl 0 rfl) ?_
                            refine lv_iload_n hx hb dX0_rings_185 rfl (lv_at hl 6 rfl) ?_
                            refine lv_icmp_le (tgt := 195) hx hb dX0_rings_186 (by decide) (fun c_85 => ?_) (fun c_85 => ?_)
                            · skip
                              refine lv_iinc (v := (nI (k + 1))) (lv' := [(4, .int (nI (k + 1))), (9, .int (-4)), (8, .int 1), (7, .int (-4)), (6, .int (nI ((k / 5) % 5))), (5, .int (nI ((k / 25) % 5))), (3, .int Mo), (2, .int B), (0, .ref (ad 0)), (1, .int i)]) hx hb dX0_rings_195 hl (k := 5) rfl (mi_add rfl rfl) (by decide) rfl (fun ls hl => ?_)
                              refine lv_goto (tgt := 19) hx hb dX0_rings_198 (by decide) ?_
                              exact ih19  (k + 1) B Mo (by omega) (by rw [fmx, ← hfm, show rgS σ np nc ld k = (-4) from by unfold rgS; rw [if_pos (by omega), if_neg (by omega)]]; dsimp only; rw [if_neg (Int32.not_lt.mpr c_85)]) (by omega) ls (lv_sub hl [0, 6, 7, 8, 9] rfl)
                            · skip
                              refine lv_iload hx hb dX0_rings_189 (lv_at hl 5 rfl) ?_
                              refine lv_istore_n (lv' := [(2, .int (nI k)), (9, .int (-4)), (8, .int 1), (7, .int (-4)), (6, .int (nI ((k / 5) % 5))), (5, .int (nI ((k / 25) % 5))), (4, .int (nI k)), (3, .int Mo), (0, .ref (ad 0)), (1, .int i)]) hx hb dX0_rings_191 rfl hl (by decide) rfl (fun ls hl => ?_)
                              refine lv_iload hx hb dX0_rings_192 (lv_at hl 1 rfl) ?_
                              refine lv_istore_n (lv' := [(3, .int (-4)), (2, .int (nI k)), (9, .int (-4)), (8, .int 1), (7, .int (-4)), (6, .int (nI ((k / 5) % 5))), (5, .int (nI ((k / 25) % 5))), (4, .int (nI k)), (0, .ref (ad 0)), (1, .int i)]) hx hb dX0_rings_194 rfl hl (by decide) rfl (fun ls hl => ?_)
                              refine lv_iinc (v := (nI (k + 1))) (lv' := [(4, .int (nI (k + 1))), (3, .int (-4)), (2, .int (nI k)), (9, .int (-4)), (8, .int 1), (7, .int (-4)), (6, .int (nI ((k / 5) % 5))), (5, .int (nI ((k / 25) % 5))), (0, .ref (ad 0)), (1, .int i)]) hx hb dX0_rings_195 hl (k := 7) rfl (mi_add rfl rfl) (by decide) rfl (fun ls hl => ?_)
                              refine lv_goto (tgt := 19) hx hb dX0_rings_198 (by decide) ?_
                              exact ih19  (k + 1) (nI k) (-4) (by omega) (by rw [fmx, ← hfm, show rgS σ np nc ld k = (-4) from by unfold rgS; rw [if_pos (by omega), if_neg (by omega)]]; dsimp only; rw [if_pos (Int32.not_le.mp c_85)]) (by omega) ls (lv_sub hl [0, 1, 2, 8, 9] rfl)
                          · have c_84 : ¬ (nc ((k / 5) % 5) = 0) := bi_f c_84
                            refine lv_aload_n hx hb dX0_rings_157 rfl (lv_at hl 7 rfl) ?_
                            refine lv_iload hx hb dX0_rings_158 (lv_at hl 1 rfl) ?_
                            refine vp_callSi (W.runV (As := [.int (-4)]) (rest := []) ⟨hx, hb, hml, hown, hts⟩ (mt_X0_isBare l D dA rr xs ad N hA σ (-4) np nc ld hF (Or.inl (by decide))) (cwV 1 hts (lw_V q521 q523 qs12 q45 q524) rfl rfl rfl (by decide +kernel) ⟨Nat.le_of_ble_eq_true rfl, Nat.le_of_ble_eq_true rfl⟩) ⟨mPre.blind, m_recv hE hP 0 (xl_n hA (by decide)) rfl rfl, mPre.at hE hP⟩ rfl rfl hl.1 rfl (lv_room (Nat.le_of_ble_eq_true rfl)) dX0_rings_160 ⟨Nat.le_of_ble_eq_true rfl, Nat.le_of_ble_eq_true rfl⟩) (fun r_86 hr_86 => ?_)
                            subst hr_86
                            refine lv_if_ne (tgt := 179) hx hb dX0_rings_163 (by decide) (fun c_87 => ?_) (fun c_87 => ?_)
                            · have c_87 : ik (-4) np ∧ nc (tn (-4)) = 0 := bi_t c_87
                              exact absurd c_87.1.1 (by decide)
                            · have c_87 : ¬ (ik (-4) np ∧ nc (tn (-4)) = 0) := bi_f c_87
                              refine lv_aload_n hx hb dX0_rings_166 rfl (lv_at hl 7 rfl) ?_
                              refine lv_iload hx hb dX0_rings_167 (lv_at hl 3 rfl) ?_
                              refine lv_iload hx hb dX0_rings_169 (lv_at hl 2 rfl) ?_
                              refine lv_iload hx hb dX0_rings_171 (lv_at hl 1 rfl) ?_
                              refine vp_callSi (W.runV (As := [.int (nI ((k / 25) % 5)), .int (nI ((k / 5) % 5)), .int (-4)]) (rest := []) ⟨hx, hb, hml, hown, hts⟩ (mt_X0_savedIn l D dA rr xs ad N hA σ (nI ((k / 25) % 5)) (nI ((k / 5) % 5)) (-4) np nc ld hF ((ik_nat rfl (by omega)).mpr c_68) ((ik_nat rfl (by omega)).mpr c_72) (Or.inl (by decide)) (by rw [tn_nI (by omega)]; omega) (by rw [tn_nI (by omega)]; omega) (fun q => absurd q.1 (by decide))) (cwV 3 hts (lw_V q525 q527 qs13 q45 q528) rfl rfl rfl (by decide +kernel) ⟨Nat.le_of_ble_eq_true rfl, Nat.le_of_ble_eq_true rfl⟩) ⟨mPre.blind, m_recv hE hP 0 (xl_n hA (by decide)) rfl rfl, mPre.at hE hP⟩ rfl rfl hl.1 rfl (lv_room (Nat.le_of_ble_eq_true rfl)) dX0_rings_173 ⟨Nat.le_of_ble_eq_true rfl, Nat.le_of_ble_eq_true rfl⟩) (fun r_88 hr_88 => ?_)
                              rw [tn_nI (n := (k / 25) % 5) (by omega)] at hr_88
                              rw [tn_nI (n := (k / 5) % 5) (by omega)] at hr_88
                              subst hr_88
                              refine lv_goto (tgt := 181) hx hb dX0_rings_176 (by decide) ?_
                              refine lv_istore (lv' := [(9, .int (savI σ nc ld ((k / 25) % 5) ((k / 5) % 5) (-4))), (8, .int 1), (7, .int (-4)), (6, .int (nI ((k / 5) % 5))), (5, .int (nI ((k / 25) % 5))), (4, .int (nI k)), (3, .int Mo), (2, .int B), (0, .ref (ad 0)), (1, .int i)]) hx hb dX0_rings_181 hl (by decide) rfl (fun ls hl => ?_)
                              refine lv_iload hx hb dX0_rings_183 (lv_at hl 0 rfl) ?_
                              refine lv_iload_n hx hb dX0_rings_185 rfl (lv_at hl 6 rfl) ?_
                              refine lv_icmp_le (tgt := 195) hx hb dX0_rings_186 (by decide) (fun c_89 => ?_) (fun c_89 => ?_)
                              · skip
                                refine lv_iinc (v := (nI (k + 1))) (lv' := [(4, .int (nI (k + 1))), (9, .int (savI σ nc ld ((k / 25) % 5) ((k / 5) % 5) (-4))), (8, .int 1), (7, .int (-4)), (6, .int (nI ((k / 5) % 5))), (5, .int (nI ((k / 25) % 5))), (3, .int Mo), (2, .int B), (0, .ref (ad 0)), (1, .int i)]) hx hb dX0_rings_195 hl (k := 5) rfl (mi_add rfl rfl) (by decide) rfl (fun ls hl => ?_)
                                refine lv_goto (tgt := 19) hx hb dX0_rings_198 (by decide) ?_
                                exact ih19  (k + 1) B Mo (by omega) (by rw [fmx, ← hfm, show rgS σ np nc ld k = (savI σ nc ld ((k / 25) % 5) ((k / 5) % 5) (-4)) from by unfold rgS; rw [if_pos (by omega), if_pos (by omega)]]; dsimp only; rw [if_neg (Int32.not_lt.mpr c_89)]) (by omega) ls (lv_sub hl [0, 6, 7, 8, 9] rfl)
                              · skip
                                refine lv_iload hx hb dX0_rings_189 (lv_at hl 5 rfl) ?_
                                refine lv_istore_n (lv' := [(2, .int (nI k)), (9, .int (savI σ nc ld ((k / 25) % 5) ((k / 5) % 5) (-4))), (8, .int 1), (7, .int (-4)), (6, .int (nI ((k / 5) % 5))), (5, .int (nI ((k / 25) % 5))), (4, .int (nI k)), (3, .int Mo), (0, .ref (ad 0)), (1, .int i)]) hx hb dX0_rings_191 rfl hl (by decide) rfl (fun ls hl => ?_)
                                refine lv_iload hx hb dX0_rings_192 (lv_at hl 1 rfl) ?_
                                refine lv_istore_n (lv' := [(3, .int (savI σ nc ld ((k / 25) % 5) ((k / 5) % 5) (-4))), (2, .int (nI k)), (9, .int (savI σ nc ld ((k / 25) % 5) ((k / 5) % 5) (-4))), (8, .int 1), (7, .int (-4)), (6, .int (nI ((k / 5) % 5))), (5, .int (nI ((k / 25) % 5))), (4, .int (nI k)), (0, .ref (ad 0)), (1, .int i)]) hx hb dX0_rings_194 rfl hl (by decide) rfl (fun ls hl => ?_)
                                refine lv_iinc (v := (nI (k + 1))) (lv' := [(4, .int (nI (k + 1))), (3, .int (savI σ nc ld ((k / 25) % 5) ((k / 5) % 5) (-4))), (2, .int (nI k)), (9, .int (savI σ nc ld ((k / 25) % 5) ((k / 5) % 5) (-4))), (8, .int 1), (7, .int (-4)), (6, .int (nI ((k / 5) % 5))), (5, .int (nI ((k / 25) % 5))), (0, .ref (ad 0)), (1, .int i)]) hx hb dX0_rings_195 hl (k := 7) rfl (mi_add rfl rfl) (by decide) rfl (fun ls hl => ?_)
                                refine lv_goto (tgt := 19) hx hb dX0_rings_198 (by decide) ?_
                                exact ih19  (k + 1) (nI k) (savI σ nc ld ((k / 25) % 5) ((k / 5) % 5) (-4)) (by omega) (by rw [fmx, ← hfm, show rgS σ np nc ld k = (savI σ nc ld ((k / 25) % 5) ((k / 5) % 5) (-4)) from by unfold rgS; rw [if_pos (by omega), if_pos (by omega)]]; dsimp only; rw [if_pos (Int32.not_le.mp c_89)]) (by omega) ls (lv_sub hl [0, 1, 2, 8, 9] rfl)
                    · skip
                      exact absurd (by decide) c_78
    exact lp19 (250 - 0 + 1) 0 (-4) 0 (by omega) rfl (by omega) ls (lv_sub hl [0, 1, 2, 3, 4] rfl)
  · have c_2 : ¬ (iv i (-1) 2) := bi_f c_2
    refine lv_iconst (v := (-1)) hx hb dX0_rings_9 (by decide) ?_
    exact W.iret (v := (-1)) hx hb hr (fun t ht hW => ⟨_, rfl, by dsimp only; rw [if_neg c_2], ht⟩) (fun q hq => by cases hq) dX0_rings_10
