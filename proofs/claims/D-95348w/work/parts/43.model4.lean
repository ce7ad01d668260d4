def msS (σ : mMem) (np : Nat) (nc : Nat → Nat) (ld : Nat → Nat → Nat) (k : Nat) : Int32 := if k < 25 then (if k / 5 < np ∧ k % 5 < np ∧ k / 5 < k % 5 ∧ 0 < nc (k / 5) ∧ 0 < nc (k % 5) then svM σ nc ld (k / 5) (k % 5) (-1) else 0) else (if (k - 25) / 25 < np ∧ (k - 25) / 5 % 5 < np ∧ (k - 25) % 5 < np ∧ (k - 25) / 25 < (k - 25) / 5 % 5 ∧ (k - 25) / 5 % 5 ≠ (k - 25) % 5 ∧ (k - 25) / 25 < (k - 25) % 5 ∧ 0 < nc ((k - 25) / 25) ∧ 0 < nc ((k - 25) / 5 % 5) ∧ 0 < nc ((k - 25) % 5) then svM σ nc ld ((k - 25) / 25) ((k - 25) / 5 % 5) (nI ((k - 25) % 5)) else 0)
def rgRM (b : Int32 × Int32) (i : Int32) : Int32 := if 0 ≤ b.1 then (if i = -1 then b.2 else (if 25 ≤ b.1 then (if i = 0 then (b.1 - 25) / 25 else if i = 1 then (b.1 - 25) / 5 - (b.1 - 25) / 5 / 5 * 5 else (b.1 - 25) - (b.1 - 25) / 5 * 5) else (if i = 0 then b.1 / 5 else if i = 1 then b.1 - b.1 / 5 * 5 else -4))) else -4
def umM (f : Nat → Int32) (s : Nat) : Nat → Int32
  | 0 => 0
  | k + 1 => umM f s k + ((nI s >>> (nI k &&& 31)) &&& 1) * f k
abbrev unP (σ : mMem) (nw : Nat) (a1 a2 a3 : Int32) (s : Nat) : Prop := ((nI s >>> (a1 &&& 31)) &&& 1) = 1 ∧ umM (σ 6) s nw = a3 ∧ umM (σ 7) s nw = a2
def unD (ok : Nat → Prop) [DecidablePred ok] (top : Nat) : Nat → Int32 × Int32
  | 0 => (0, -4)
  | j + 1 => if ok (top - j) then ((unD ok top j).1 + 1, nI (top - j)) else unD ok top j
theorem dec0 {a j : Nat} (h : 0 < a - j) : nI (a - j) + Int32.ofInt (-1) = nI (a - (j + 1)) := by
  rw [show a - (j + 1) = (a - j) - 1 by omega]
  have e : nI (a - j) - 1 = nI (a - j - 1) := mi_sub (a := a - j) (b := 1) rfl rfl (by omega)
  rw [← e, Int32.sub_eq_add_neg]
  rfl
def stF (σ : mMem) (b : Nat) : Nat → mMem
  | 0 => σ
  | k + 1 => mup (stF σ b k) 12 k (stF σ b k 1 (b + k))
abbrev lawK (ru n : Nat) (o : Nat → Nat) (k : Nat) : Prop := if ru = 0 then o k = n - 1 - k else if ru = 1 then o k = k else (0 < o k ∨ k = n - 1)
def lawB (ru n : Nat) (o : Nat → Nat) : Nat → Bool
  | 0 => true
  | k + 1 => lawB ru n o k && decide (lawK ru n o k)
theorem lawB_s {ru n : Nat} {o : Nat → Nat} {k : Nat} (h : lawB ru n o k = true) (h2 : lawK ru n o k) : lawB ru n o (k + 1) = true := by
  rw [lawB, h, decide_eq_true h2]; rfl
theorem lawB_n1 {ru n : Nat} {o : Nat → Nat} {k : Nat} (h : ¬ (lawB ru n o k = true)) : ¬ (lawB ru n o (k + 1) = true) := by
  intro q
  rw [lawB, Bool.and_eq_true] at q
  exact h q.1
theorem lawB_n2 {ru n : Nat} {o : Nat → Nat} {k : Nat} (h : ¬ lawK ru n o k) : ¬ (lawB ru n o (k + 1) = true) := by
  intro q
  rw [lawB, Bool.and_eq_true] at q
  exact h (of_decide_eq_true q.2)
set_option maxHeartbeats 4000000 in
set_option maxRecDepth 100000 in
theorem mt_X8_rings (l : Launch) (D : va_G) (dA : Nat → ClassId) (st : Nat) (hst : st = 1 ∨ st = 2) (ad : Nat → Nat) (N : Nat) (hA : yA ad N) (σ : mMem) (i : Int32) (np : Nat) (nc : Nat → Nat) (ld : Nat → Nat → Nat) (hF : yFk σ 1 np nc ld) : Met l yX8_rings (ws_ yX8_rings cX8_rings 10 (some .int)) ({ frames := 3, cells := 0, slots := 0, locals := 70 }) (va_Pc [.ref (ad 0), .int i] (mPre D dA (shM st) ad N σ)) (vp_Si (fun r : Int32 => r = (if iv i (-1) 2 then rgRM (fmx (msS σ np nc ld) 150) i else -1))) 0 0 (fun _ => False) := by
  refine Met.ofW (cc := cX8_rings) (maxL := 10) (ret := (some .int)) (by decide) rfl ?_
  intro pp ee ss mm args below meth cd s₁ B hml hv
  obtain ⟨rfl, hP, hE⟩ := hv
  have hx := B.exec
  have hb := B.bytes
  have hr := B.returns
  have hts := atoms_spec (ws := ws_ yX8_rings cX8_rings 10 (some .int)) B.pre
  have hts : ∀ w ∈ lw_all, w.before _ ss = true := fun w h => hts w (List.mem_cons_of_mem _ h)
  have hown : ss.vm.findClass RX8 = some mm.cls := findClass_of_methodNamed B.named
  have hlocks := B.notSynchronized
  have hNN := hA.1
  have hn5 := hF.n5
  have hl := lv_entry ([.ref (ad 0), .int i]) (n := 10) (Nat.le_of_ble_eq_true rfl)
  rw [lg_entry_eq]
  generalize (lg_sl ([.ref (ad 0), .int i]) ++ List.replicate (10 - (lg_sl ([.ref (ad 0), .int i])).length) Slot.unset).toArray = ls at hl ⊢
  have hl : lv_has ls 10 [(0, .ref (ad 0)), (1, .int i)] := hl
  refine lv_iload_n hx hb dX8_rings_0 rfl (lv_at hl 1 rfl) ?_
  refine lv_i2l (v := i.toInt64) hx hb dX8_rings_1 rfl ?_
  refine lv_ldc2 hx hb hown (hts _ q1002) dX8_rings_2 ?_
  refine lv_ldc2 hx hb hown (hts _ q901) dX8_rings_5 ?_
  refine vp_callSi (W.runS (As := [.long i.toInt64, .long (-1), .long 2]) (rest := []) ⟨hx, hb, hml, hown, hts⟩ (mt_X8_in l i.toInt64 (-1) 2) (va_cwS 3 hts (lw_S q854 q855 q55 q856) rfl rfl rfl (by decide +kernel) ⟨Nat.le_of_ble_eq_true rfl, Nat.le_of_ble_eq_true rfl⟩) ⟨fun _ _ _ _ h => h, fun _ _ _ => ⟨rfl, trivial⟩⟩ rfl rfl hl.1 rfl (lv_room (Nat.le_of_ble_eq_true rfl)) dX8_rings_8 ⟨Nat.le_of_ble_eq_true rfl, Nat.le_of_ble_eq_true rfl⟩) (fun r_1 hr_1 => ?_)
  subst hr_1
  refine lv_rwi (bi_c (liv_of rfl rfl)) ?_
  refine lv_if_ne (tgt := 16) hx hb dX8_rings_11 (by decide) (fun c_2 => ?_) (fun c_2 => ?_)
  · have c_2 : iv i (-1) 2 := bi_t c_2
    refine lv_iconst (v := 0) hx hb dX8_rings_16 (by decide) ?_
    refine lv_istore_n (lv' := [(2, .int 0), (0, .ref (ad 0)), (1, .int i)]) hx hb dX8_rings_17 rfl hl (by decide) rfl (fun ls hl => ?_)
    refine lv_bipush (v := (-4)) hx hb dX8_rings_18 (by decide) ?_
    refine lv_istore_n (lv' := [(3, .int (-4)), (2, .int 0), (0, .ref (ad 0)), (1, .int i)]) hx hb dX8_rings_20 rfl hl (by decide) rfl (fun ls hl => ?_)
    refine lv_iconst (v := 0) hx hb dX8_rings_21 (by decide) ?_
    refine lv_istore (lv' := [(4, .int 0), (3, .int (-4)), (2, .int 0), (0, .ref (ad 0)), (1, .int i)]) hx hb dX8_rings_22 hl (by decide) rfl (fun ls hl => ?_)
    have lp24 : ∀ (fu : Nat) (k : Nat) (B : Int32) (Mo : Int32) (_ : k ≤ 150) (_ : (B, Mo) = fmx (msS σ np nc ld) k) (_ : 150 - k < fu) (ls : Array Slot) (_ : lv_has ls 10 [(4, .int (nI k)), (3, .int B), (2, .int Mo), (0, .ref (ad 0)), (1, .int i)]), W pp l ee (headSpec (ws_ yX8_rings cX8_rings 10 (some .int)) ({ frames := 3, cells := 0, slots := 0, locals := 70 })).room ss mm ([.ref (ad 0), .int i] : List Value).toArray below meth cd ss.heap [] 0 0 (MQ below (vp_Si (fun r : Int32 => r = (if iv i (-1) 2 then rgRM (fmx (msS σ np nc ld) 150) i else -1))) ([.ref (ad 0), .int i] : List Value).toArray ss 0 0 (fun _ => False)) (F0 mm 24 ls []) := by
      intro fu
      induction fu with
      | zero => intro k B Mo hk hfm hfu; exact absurd hfu (Nat.not_lt_zero _)
      | succ fu ih24 =>
        intro k B Mo hk hfm hfu ls hl
        refine lv_iload hx hb dX8_rings_24 (lv_at hl 0 rfl) ?_
        refine lv_sipush (v := 150) hx hb dX8_rings_26 (by decide) ?_
        refine lv_icmp_ge (tgt := 276) hx hb dX8_rings_29 (by decide) (fun c_3 => ?_) (fun c_3 => ?_)
        · have nc_3 : 150 ≤ k := mi_le rfl rfl (by omega) (by omega) c_3
          refine lv_iload_n hx hb dX8_rings_276 rfl (lv_at hl 1 rfl) ?_
          refine lv_if_ge (tgt := 283) hx hb dX8_rings_277 (by decide) (fun c_4 => ?_) (fun c_4 => ?_)
          · skip
            refine lv_iload_n hx hb dX8_rings_283 rfl (lv_at hl 4 rfl) ?_
            refine lv_iconst (v := (-1)) hx hb dX8_rings_284 (by decide) ?_
            refine lv_icmp_ne (tgt := 290) hx hb dX8_rings_285 (by decide) (fun c_5 => ?_) (fun c_5 => ?_)
            · skip
              refine lv_iload_n hx hb dX8_rings_290 rfl (lv_at hl 1 rfl) ?_
              refine lv_bipush (v := 25) hx hb dX8_rings_291 (by decide) ?_
              refine lv_icmp_ge (tgt := 300) hx hb dX8_rings_293 (by decide) (fun c_6 => ?_) (fun c_6 => ?_)
              · skip
                refine lv_iload_n hx hb dX8_rings_300 rfl (lv_at hl 1 rfl) ?_
                refine lv_bipush (v := 25) hx hb dX8_rings_301 (by decide) ?_
                refine lv_isub hx hb dX8_rings_303 ?_
                refine lv_istore (lv' := [(4, .int (B - 25)), (3, .int B), (2, .int Mo), (0, .ref (ad 0)), (1, .int i)]) hx hb dX8_rings_304 hl (by decide) rfl (fun ls hl => ?_)
                refine lv_iload_n hx hb dX8_rings_306 rfl (lv_at hl 1 rfl) ?_
                refine lv_bipush (v := 25) hx hb dX8_rings_307 (by decide) ?_
                refine lv_icmp_ge (tgt := 340) hx hb dX8_rings_309 (by decide) (fun c_7 => ?_) (fun c_7 => ?_)
                · skip
                  refine lv_iload_n hx hb dX8_rings_340 rfl (lv_at hl 4 rfl) ?_
                  refine lv_if_ne (tgt := 352) hx hb dX8_rings_341 (by decide) (fun c_8 => ?_) (fun c_8 => ?_)
                  · skip
                    refine lv_iload_n hx hb dX8_rings_352 rfl (lv_at hl 4 rfl) ?_
                    refine lv_iconst (v := 1) hx hb dX8_rings_353 (by decide) ?_
                    refine lv_icmp_ne (tgt := 366) hx hb dX8_rings_354 (by decide) (fun c_9 => ?_) (fun c_9 => ?_)
                    · skip
                      refine lv_iload hx hb dX8_rings_366 (lv_at hl 0 rfl) ?_
                      refine lv_iconst (v := 5) hx hb dX8_rings_368 (by decide) ?_
                      refine lv_irem hx hb dX8_rings_369 (by decide) ?_
                      exact W.iret (v := ((B - 25) - (B - 25) / 5 * 5)) hx hb hr (fun t ht hW => ⟨_, rfl, by dsimp only; rw [if_pos c_2, show (150 : Nat) = k by omega, ← hfm]; dsimp only [rgRM]; rw [if_pos c_4, if_neg c_5, if_pos c_6, if_neg c_8, if_neg c_9], ht⟩) (fun q hq => by cases hq) dX8_rings_370
                    · skip
                      refine lv_iload hx hb dX8_rings_357 (lv_at hl 0 rfl) ?_
                      refine lv_iconst (v := 5) hx hb dX8_rings_359 (by decide) ?_
                      refine lv_idiv hx hb dX8_rings_360 (by decide) ?_
                      refine lv_iconst (v := 5) hx hb dX8_rings_361 (by decide) ?_
                      refine lv_irem hx hb dX8_rings_362 (by decide) ?_
                      refine lv_goto (tgt := 370) hx hb dX8_rings_363 (by decide) ?_
                      exact W.iret (v := (((B - 25) / 5) - ((B - 25) / 5) / 5 * 5)) hx hb hr (fun t ht hW => ⟨_, rfl, by dsimp only; rw [if_pos c_2, show (150 : Nat) = k by omega, ← hfm]; dsimp only [rgRM]; rw [if_pos c_4, if_neg c_5, if_pos c_6, if_neg c_8, if_pos c_9], ht⟩) (fun q hq => by cases hq) dX8_rings_370
                  · skip
                    refine lv_iload hx hb dX8_rings_344 (lv_at hl 0 rfl) ?_
                    refine lv_bipush (v := 25) hx hb dX8_rings_346 (by decide) ?_
                    refine lv_idiv hx hb dX8_rings_348 (by decide) ?_
                    refine lv_goto (tgt := 370) hx hb dX8_rings_349 (by decide) ?_
                    exact W.iret (v := ((B - 25) / 25)) hx hb hr (fun t ht hW => ⟨_, rfl, by dsimp only; rw [if_pos c_2, show (150 : Nat) = k by omega, ← hfm]; dsimp only [rgRM]; rw [if_pos c_4, if_neg c_5, if_pos c_6, if_pos c_8], ht⟩) (fun q hq => by cases hq) dX8_rings_370
                · skip
                  exact absurd c_6 c_7
              · skip
                refine lv_iload_n hx hb dX8_rings_296 rfl (lv_at hl 1 rfl) ?_
                refine lv_goto (tgt := 304) hx hb dX8_rings_297 (by decide) ?_
                refine lv_istore (lv' := [(4, .int B), (3, .int B), (2, .int Mo), (0, .ref (ad 0)), (1, .int i)]) hx hb dX8_rings_304 hl (by decide) rfl (fun ls hl => ?_)
                refine lv_iload_n hx hb dX8_rings_306 rfl (lv_at hl 1 rfl) ?_
                refine lv_bipush (v := 25) hx hb dX8_rings_307 (by decide) ?_
                refine lv_icmp_ge (tgt := 340) hx hb dX8_rings_309 (by decide) (fun c_10 => ?_) (fun c_10 => ?_)
                · skip
                  exact absurd c_10 c_6
                · skip
                  refine lv_iload_n hx hb dX8_rings_312 rfl (lv_at hl 4 rfl) ?_
                  refine lv_if_ne (tgt := 323) hx hb dX8_rings_313 (by decide) (fun c_11 => ?_) (fun c_11 => ?_)
                  · skip
                    refine lv_iload_n hx hb dX8_rings_323 rfl (lv_at hl 4 rfl) ?_
                    refine lv_iconst (v := 1) hx hb dX8_rings_324 (by decide) ?_
                    refine lv_icmp_ne (tgt := 335) hx hb dX8_rings_325 (by decide) (fun c_12 => ?_) (fun c_12 => ?_)
                    · skip
                      refine lv_bipush (v := (-4)) hx hb dX8_rings_335 (by decide) ?_
                      refine lv_goto (tgt := 370) hx hb dX8_rings_337 (by decide) ?_
                      exact W.iret (v := (-4)) hx hb hr (fun t ht hW => ⟨_, rfl, by dsimp only; rw [if_pos c_2, show (150 : Nat) = k by omega, ← hfm]; dsimp only [rgRM]; rw [if_pos c_4, if_neg c_5, if_neg c_6, if_neg c_11, if_neg c_12], ht⟩) (fun q hq => by cases hq) dX8_rings_370
                    · skip
                      refine lv_iload hx hb dX8_rings_328 (lv_at hl 0 rfl) ?_
                      refine lv_iconst (v := 5) hx hb dX8_rings_330 (by decide) ?_
                      refine lv_irem hx hb dX8_rings_331 (by decide) ?_
                      refine lv_goto (tgt := 370) hx hb dX8_rings_332 (by decide) ?_
                      exact W.iret (v := (B - B / 5 * 5)) hx hb hr (fun t ht hW => ⟨_, rfl, by dsimp only; rw [if_pos c_2, show (150 : Nat) = k by omega, ← hfm]; dsimp only [rgRM]; rw [if_pos c_4, if_neg c_5, if_neg c_6, if_neg c_11, if_pos c_12], ht⟩) (fun q hq => by cases hq) dX8_rings_370
                  · skip
                    refine lv_iload hx hb dX8_rings_316 (lv_at hl 0 rfl) ?_
                    refine lv_iconst (v := 5) hx hb dX8_rings_318 (by decide) ?_
                    refine lv_idiv hx hb dX8_rings_319 (by decide) ?_
                    refine lv_goto (tgt := 370) hx hb dX8_rings_320 (by decide) ?_
                    exact W.iret (v := (B / 5)) hx hb hr (fun t ht hW => ⟨_, rfl, by dsimp only; rw [if_pos c_2, show (150 : Nat) = k by omega, ← hfm]; dsimp only [rgRM]; rw [if_pos c_4, if_neg c_5, if_neg c_6, if_pos c_11], ht⟩) (fun q hq => by cases hq) dX8_rings_370
            · skip
              refine lv_iload_n hx hb dX8_rings_288 rfl (lv_at hl 2 rfl) ?_
              exact W.iret (v := Mo) hx hb hr (fun t ht hW => ⟨_, rfl, by dsimp only; rw [if_pos c_2, show (150 : Nat) = k by omega, ← hfm]; dsimp only [rgRM]; rw [if_pos c_4, if_pos c_5], ht⟩) (fun q hq => by cases hq) dX8_rings_289
          · skip
            refine lv_bipush (v := (-4)) hx hb dX8_rings_280 (by decide) ?_
            exact W.iret (v := (-4)) hx hb hr (fun t ht hW => ⟨_, rfl, by dsimp only; rw [if_pos c_2, show (150 : Nat) = k by omega, ← hfm]; dsimp only [rgRM]; rw [if_neg c_4], ht⟩) (fun q hq => by cases hq) dX8_rings_282
        · have nc_3 : k < 150 := mi_nle rfl rfl (by omega) (by omega) c_3
          refine lv_iload hx hb dX8_rings_32 (lv_at hl 0 rfl) ?_
          refine lv_bipush (v := 25) hx hb dX8_rings_34 (by decide) ?_
          refine lv_icmp_ge (tgt := 46) hx hb dX8_rings_36 (by decide) (fun c_13 => ?_) (fun c_13 => ?_)
          · have nc_13 : 25 ≤ k := mi_le rfl rfl (by omega) (by omega) c_13
            refine lv_iload hx hb dX8_rings_46 (lv_at hl 0 rfl) ?_
            refine lv_bipush (v := 25) hx hb dX8_rings_48 (by decide) ?_
            refine lv_isub hx hb dX8_rings_50 ?_
            refine lv_bipush (v := 25) hx hb dX8_rings_51 (by decide) ?_
            refine lv_idiv hx hb dX8_rings_53 (by decide) ?_
            refine lv_rwi (mi_div (a := k - 25) (b := 25) (mi_sub (a := k) (b := 25) rfl rfl (by omega)) rfl (by omega) (by omega) (by omega)) ?_
            refine lv_istore (lv' := [(5, .int (nI ((k - 25) / 25))), (4, .int (nI k)), (3, .int B), (2, .int Mo), (0, .ref (ad 0)), (1, .int i)]) hx hb dX8_rings_54 hl (by decide) rfl (fun ls hl => ?_)
            refine lv_iload hx hb dX8_rings_56 (lv_at hl 1 rfl) ?_
            refine lv_bipush (v := 25) hx hb dX8_rings_58 (by decide) ?_
            refine lv_icmp_ge (tgt := 70) hx hb dX8_rings_60 (by decide) (fun c_14 => ?_) (fun c_14 => ?_)
            · have nc_14 : 25 ≤ k := mi_le rfl rfl (by omega) (by omega) c_14
              refine lv_iload hx hb dX8_rings_70 (lv_at hl 1 rfl) ?_
              refine lv_bipush (v := 25) hx hb dX8_rings_72 (by decide) ?_
              refine lv_isub hx hb dX8_rings_74 ?_
              refine lv_iconst (v := 5) hx hb dX8_rings_75 (by decide) ?_
              refine lv_idiv hx hb dX8_rings_76 (by decide) ?_
              refine lv_iconst (v := 5) hx hb dX8_rings_77 (by decide) ?_
              refine lv_irem hx hb dX8_rings_78 (by decide) ?_
              refine lv_rwi (mi_rem (a := (k - 25) / 5) (b := 5) (mi_div (a := k - 25) (b := 5) (mi_sub (a := k) (b := 25) rfl rfl (by omega)) rfl (by omega) (by omega) (by omega)) rfl (by omega) (by omega) (by omega)) ?_
              refine lv_istore (lv' := [(6, .int (nI (((k - 25) / 5) % 5))), (5, .int (nI ((k - 25) / 25))), (4, .int (nI k)), (3, .int B), (2, .int Mo), (0, .ref (ad 0)), (1, .int i)]) hx hb dX8_rings_79 hl (by decide) rfl (fun ls hl => ?_)
              refine lv_iload hx hb dX8_rings_81 (lv_at hl 2 rfl) ?_
              refine lv_bipush (v := 25) hx hb dX8_rings_83 (by decide) ?_
              refine lv_icmp_ge (tgt := 92) hx hb dX8_rings_85 (by decide) (fun c_15 => ?_) (fun c_15 => ?_)
              · have nc_15 : 25 ≤ k := mi_le rfl rfl (by omega) (by omega) c_15
                refine lv_iload hx hb dX8_rings_92 (lv_at hl 2 rfl) ?_
                refine lv_bipush (v := 25) hx hb dX8_rings_94 (by decide) ?_
                refine lv_isub hx hb dX8_rings_96 ?_
                refine lv_iconst (v := 5) hx hb dX8_rings_97 (by decide) ?_
                refine lv_irem hx hb dX8_rings_98 (by decide) ?_
                refine lv_rwi (mi_rem (a := k - 25) (b := 5) (mi_sub (a := k) (b := 25) rfl rfl (by omega)) rfl (by omega) (by omega) (by omega)) ?_
                refine lv_istore (lv' := [(7, .int (nI ((k - 25) % 5))), (6, .int (nI (((k - 25) / 5) % 5))), (5, .int (nI ((k - 25) / 25))), (4, .int (nI k)), (3, .int B), (2, .int Mo), (0, .ref (ad 0)), (1, .int i)]) hx hb dX8_rings_99 hl (by decide) rfl (fun ls hl => ?_)
                refine lv_iload hx hb dX8_rings_101 (lv_at hl 2 rfl) ?_
                refine lv_aload_n hx hb dX8_rings_103 rfl (lv_at hl 6 rfl) ?_
                refine mg_get hx hb hts in_X8 hown hE hP 0 (yl_n hA (by decide)) rfl rfl 0 rfl (by decide) (hts _ q764) (fun _ h9 => h9) dX8_rings_104 ?_
                refine lv_icmp_ge (tgt := 158) hx hb dX8_rings_107 (by decide) (fun c_16 => ?_) (fun c_16 => ?_)
                · have nc_16 : np ≤ (k - 25) / 25 := mi_le hF.n rfl (by omega) (by omega) c_16
                  refine lv_iconst (v := 0) hx hb dX8_rings_158 (by decide) ?_
                  refine lv_istore (lv' := [(8, .int 0), (7, .int (nI ((k - 25) % 5))), (6, .int (nI (((k - 25) / 5) % 5))), (5, .int (nI ((k - 25) / 25))), (4, .int (nI k)), (3, .int B), (2, .int Mo), (0, .ref (ad 0)), (1, .int i)]) hx hb dX8_rings_159 hl (by decide) rfl (fun ls hl => ?_)
                  refine lv_iload hx hb dX8_rings_161 (lv_at hl 0 rfl) ?_
                  refine lv_if_eq (tgt := 220) hx hb dX8_rings_163 (by decide) (fun c_17 => ?_) (fun c_17 => ?_)
                  · skip
                    refine lv_iconst (v := 0) hx hb dX8_rings_220 (by decide) ?_
                    refine lv_istore (lv' := [(8, .int 0), (7, .int (nI ((k - 25) % 5))), (6, .int (nI (((k - 25) / 5) % 5))), (5, .int (nI ((k - 25) / 25))), (4, .int (nI k)), (3, .int B), (2, .int Mo), (0, .ref (ad 0)), (1, .int i)]) hx hb dX8_rings_221 hl (by decide) rfl (fun ls hl => ?_)
                    refine lv_iload hx hb dX8_rings_223 (lv_at hl 0 rfl) ?_
                    refine lv_if_eq (tgt := 241) hx hb dX8_rings_225 (by decide) (fun c_18 => ?_) (fun c_18 => ?_)
                    · skip
                      refine lv_iconst (v := 0) hx hb dX8_rings_241 (by decide) ?_
                      refine lv_istore (lv' := [(9, .int 0), (8, .int 0), (7, .int (nI ((k - 25) % 5))), (6, .int (nI (((k - 25) / 5) % 5))), (5, .int (nI ((k - 25) / 25))), (4, .int (nI k)), (3, .int B), (2, .int Mo), (0, .ref (ad 0)), (1, .int i)]) hx hb dX8_rings_242 hl (by decide) rfl (fun ls hl => ?_)
                      refine lv_iload hx hb dX8_rings_244 (lv_at hl 0 rfl) ?_
                      refine lv_iload_n hx hb dX8_rings_246 rfl (lv_at hl 7 rfl) ?_
                      refine lv_icmp_le (tgt := 255) hx hb dX8_rings_247 (by decide) (fun c_19 => ?_) (fun c_19 => ?_)
                      · skip
                        refine lv_iload_n hx hb dX8_rings_255 rfl (lv_at hl 6 rfl) ?_
                        refine lv_istore_n (lv' := [(3, .int B), (9, .int 0), (8, .int 0), (7, .int (nI ((k - 25) % 5))), (6, .int (nI (((k - 25) / 5) % 5))), (5, .int (nI ((k - 25) / 25))), (4, .int (nI k)), (2, .int Mo), (0, .ref (ad 0)), (1, .int i)]) hx hb dX8_rings_256 rfl hl (by decide) rfl (fun ls hl => ?_)
                        refine lv_iload hx hb dX8_rings_257 (lv_at hl 1 rfl) ?_
                        refine lv_iload_n hx hb dX8_rings_259 rfl (lv_at hl 7 rfl) ?_
                        refine lv_icmp_le (tgt := 268) hx hb dX8_rings_260 (by decide) (fun c_20 => ?_) (fun c_20 => ?_)
                        · skip
                          refine lv_iload_n hx hb dX8_rings_268 rfl (lv_at hl 7 rfl) ?_
                          refine lv_istore_n (lv' := [(2, .int Mo), (3, .int B), (9, .int 0), (8, .int 0), (7, .int (nI ((k - 25) % 5))), (6, .int (nI (((k - 25) / 5) % 5))), (5, .int (nI ((k - 25) / 25))), (4, .int (nI k)), (0, .ref (ad 0)), (1, .int i)]) hx hb dX8_rings_269 rfl hl (by decide) rfl (fun ls hl => ?_)
                          refine lv_iinc (v := (nI (k + 1))) (lv' := [(4, .int (nI (k + 1))), (2, .int Mo), (3, .int B), (9, .int 0), (8, .int 0), (7, .int (nI ((k - 25) % 5))), (6, .int (nI (((k - 25) / 5) % 5))), (5, .int (nI ((k - 25) / 25))), (0, .ref (ad 0)), (1, .int i)]) hx hb dX8_rings_270 hl (k := 7) rfl (mi_add rfl rfl) (by decide) rfl (fun ls hl => ?_)
                          refine lv_goto (tgt := 24) hx hb dX8_rings_273 (by decide) ?_
                          exact ih24  (k + 1) B Mo (by omega) (by rw [fmx, ← hfm, show msS σ np nc ld k = 0 from by unfold msS; rw [if_neg (by omega), if_neg (by omega)]]; dsimp only; rw [if_neg (Int32.not_lt.mpr c_19)]) (by omega) ls (lv_sub hl [0, 2, 1, 8, 9] rfl)
                        · skip
                          exact absurd c_19 c_20
                      · skip
                        refine lv_iload hx hb dX8_rings_250 (lv_at hl 5 rfl) ?_
                        refine lv_goto (tgt := 256) hx hb dX8_rings_252 (by decide) ?_
                        refine lv_istore_n (lv' := [(3, .int (nI k)), (9, .int 0), (8, .int 0), (7, .int (nI ((k - 25) % 5))), (6, .int (nI (((k - 25) / 5) % 5))), (5, .int (nI ((k - 25) / 25))), (4, .int (nI k)), (2, .int Mo), (0, .ref (ad 0)), (1, .int i)]) hx hb dX8_rings_256 rfl hl (by decide) rfl (fun ls hl => ?_)
                        refine lv_iload hx hb dX8_rings_257 (lv_at hl 1 rfl) ?_
                        refine lv_iload_n hx hb dX8_rings_259 rfl (lv_at hl 7 rfl) ?_
                        refine lv_icmp_le (tgt := 268) hx hb dX8_rings_260 (by decide) (fun c_21 => ?_) (fun c_21 => ?_)
                        · skip
                          exact absurd c_21 c_19
                        · skip
                          refine lv_iload hx hb dX8_rings_263 (lv_at hl 1 rfl) ?_
                          refine lv_goto (tgt := 269) hx hb dX8_rings_265 (by decide) ?_
                          refine lv_istore_n (lv' := [(2, .int 0), (3, .int (nI k)), (9, .int 0), (8, .int 0), (7, .int (nI ((k - 25) % 5))), (6, .int (nI (((k - 25) / 5) % 5))), (5, .int (nI ((k - 25) / 25))), (4, .int (nI k)), (0, .ref (ad 0)), (1, .int i)]) hx hb dX8_rings_269 rfl hl (by decide) rfl (fun ls hl => ?_)
                          refine lv_iinc (v := (nI (k + 1))) (lv' := [(4, .int (nI (k + 1))), (2, .int 0), (3, .int (nI k)), (9, .int 0), (8, .int 0), (7, .int (nI ((k - 25) % 5))), (6, .int (nI (((k - 25) / 5) % 5))), (5, .int (nI ((k - 25) / 25))), (0, .ref (ad 0)), (1, .int i)]) hx hb dX8_rings_270 hl (k := 7) rfl (mi_add rfl rfl) (by decide) rfl (fun ls hl => ?_)
                          refine lv_goto (tgt := 24) hx hb dX8_rings_273 (by decide) ?_
                          exact ih24  (k + 1) (nI k) 0 (by omega) (by rw [fmx, ← hfm, show msS σ np nc ld k = 0 from by unfold msS; rw [if_neg (by omega), if_neg (by omega)]]; dsimp only; rw [if_pos (Int32.not_le.mp c_19)]) (by omega) ls (lv_sub hl [0, 2, 1, 8, 9] rfl)
                    · skip
                      exact absurd c_18 (by decide)
                  · skip
                    exact absurd c_17 (by decide)
                · have nc_16 : (k - 25) / 25 < np := mi_nle hF.n rfl (by omega) (by omega) c_16
                  refine lv_iload hx hb dX8_rings_110 (lv_at hl 1 rfl) ?_
                  refine lv_aload_n hx hb dX8_rings_112 rfl (lv_at hl 6 rfl) ?_
                  refine mg_get hx hb hts in_X8 hown hE hP 0 (yl_n hA (by decide)) rfl rfl 0 rfl (by decide) (hts _ q764) (fun _ h9 => h9) dX8_rings_113 ?_
                  refine lv_icmp_ge (tgt := 158) hx hb dX8_rings_116 (by decide) (fun c_22 => ?_) (fun c_22 => ?_)
                  · have nc_22 : np ≤ ((k - 25) / 5) % 5 := mi_le hF.n rfl (by omega) (by omega) c_22
                    refine lv_iconst (v := 0) hx hb dX8_rings_158 (by decide) ?_
                    refine lv_istore (lv' := [(8, .int 0), (7, .int (nI ((k - 25) % 5))), (6, .int (nI (((k - 25) / 5) % 5))), (5, .int (nI ((k - 25) / 25))), (4, .int (nI k)), (3, .int B), (2, .int Mo), (0, .ref (ad 0)), (1, .int i)]) hx hb dX8_rings_159 hl (by decide) rfl (fun ls hl => ?_)
                    refine lv_iload hx hb dX8_rings_161 (lv_at hl 0 rfl) ?_
                    refine lv_if_eq (tgt := 220) hx hb dX8_rings_163 (by decide) (fun c_23 => ?_) (fun c_23 => ?_)
                    · skip
                      refine lv_iconst (v := 0) hx hb dX8_rings_220 (by decide) ?_
                      refine lv_istore (lv' := [(8, .int 0), (7, .int (nI ((k - 25) % 5))), (6, .int (nI (((k - 25) / 5) % 5))), (5, .int (nI ((k - 25) / 25))), (4, .int (nI k)), (3, .int B), (2, .int Mo), (0, .ref (ad 0)), (1, .int i)]) hx hb dX8_rings_221 hl (by decide) rfl (fun ls hl => ?_)
                      refine lv_iload hx hb dX8_rings_223 (lv_at hl 0 rfl) ?_
                      refine lv_if_eq (tgt := 241) hx hb dX8_rings_225 (by decide) (fun c_24 => ?_) (fun c_24 => ?_)
                      · skip
                        refine lv_iconst (v := 0) hx hb dX8_rings_241 (by decide) ?_
                        refine lv_istore (lv' := [(9, .int 0), (8, .int 0), (7, .int (nI ((k - 25) % 5))), (6, .int (nI (((k - 25) / 5) % 5))), (5, .int (nI ((k - 25) / 25))), (4, .int (nI k)), (3, .int B), (2, .int Mo), (0, .ref (ad 0)), (1, .int i)]) hx hb dX8_rings_242 hl (by decide) rfl (fun ls hl => ?_)
                        refine lv_iload hx hb dX8_rings_244 (lv_at hl 0 rfl) ?_
                        refine lv_iload_n hx hb dX8_rings_246 rfl (lv_at hl 7 rfl) ?_
                        refine lv_icmp_le (tgt := 255) hx hb dX8_rings_247 (by decide) (fun c_25 => ?_) (fun c_25 => ?_)
                        · skip
                          refine lv_iload_n hx hb dX8_rings_255 rfl (lv_at hl 6 rfl) ?_
                          refine lv_istore_n (lv' := [(3, .int B), (9, .int 0), (8, .int 0), (7, .int (nI ((k - 25) % 5))), (6, .int (nI (((k - 25) / 5) % 5))), (5, .int (nI ((k - 25) / 25))), (4, .int (nI k)), (2, .int Mo), (0, .ref (ad 0)), (1, .int i)]) hx hb dX8_rings_256 rfl hl (by decide) rfl (fun ls hl => ?_)
                          refine lv_iload hx hb dX8_rings_257 (lv_at hl 1 rfl) ?_
                          refine lv_iload_n hx hb dX8_rings_259 rfl (lv_at hl 7 rfl) ?_
                          refine lv_icmp_le (tgt := 268) hx hb dX8_rings_260 (by decide) (fun c_26 => ?_) (fun c_26 => ?_)
                          · skip
                            refine lv_iload_n hx hb dX8_rings_268 rfl (lv_at hl 7 rfl) ?_
                            refine lv_istore_n (lv' := [(2, .int Mo), (3, .int B), (9, .int 0), (8, .int 0), (7, .int (nI ((k - 25) % 5))), (6, .int (nI (((k - 25) / 5) % 5))), (5, .int (nI ((k - 25) / 25))), (4, .int (nI k)), (0, .ref (ad 0)), (1, .int i)]) hx hb dX8_rings_269 rfl hl (by decide) rfl (fun ls hl => ?_)
                            refine lv_iinc (v := (nI (k + 1))) (lv' := [(4, .int (nI (k + 1))), (2, .int Mo), (3, .int B), (9, .int 0), (8, .int 0), (7, .int (nI ((k - 25) % 5))), (6, .int (nI (((k - 25) / 5) % 5))), (5, .int (nI ((k - 25) / 25))), (0, .ref (ad 0)), (1, .int i)]) hx hb dX8_rings_270 hl (k := 7) rfl (mi_add rfl rfl) (by decide) rfl (fun ls hl => ?_)
                            refine lv_goto (tgt := 24) hx hb dX8_rings_273 (by decide) ?_
                            exact ih24  (k + 1) B Mo (by omega) (by rw [fmx, ← hfm, show msS σ np nc ld k = 0 from by unfold msS; rw [if_neg (by omega), if_neg (by omega)]]; dsimp only; rw [if_neg (Int32.not_lt.mpr c_25)]) (by omega) ls (lv_sub hl [0, 2, 1, 8, 9] rfl)
                          · skip
                            exact absurd c_25 c_26
                        · skip
                          refine lv_iload hx hb dX8_rings_250 (lv_at hl 5 rfl) ?_
                          refine lv_goto (tgt := 256) hx hb dX8_rings_252 (by decide) ?_
                          refine lv_istore_n (lv' := [(3, .int (nI k)), (9, .int 0), (8, .int 0), (7, .int (nI ((k - 25) % 5))), (6, .int (nI (((k - 25) / 5) % 5))), (5, .int (nI ((k - 25) / 25))), (4, .int (nI k)), (2, .int Mo), (0, .ref (ad 0)), (1, .int i)]) hx hb dX8_rings_256 rfl hl (by decide) rfl (fun ls hl => ?_)
                          refine lv_iload hx hb dX8_rings_257 (lv_at hl 1 rfl) ?_
                          refine lv_iload_n hx hb dX8_rings_259 rfl (lv_at hl 7 rfl) ?_
                          refine lv_icmp_le (tgt := 268) hx hb dX8_rings_260 (by decide) (fun c_27 => ?_) (fun c_27 => ?_)
                          · skip
                            exact absurd c_27 c_25
                          · skip
                            refine lv_iload hx hb dX8_rings_263 (lv_at hl 1 rfl) ?_
                            refine lv_goto (tgt := 269) hx hb dX8_rings_265 (by decide) ?_
                            refine lv_istore_n (lv' := [(2, .int 0), (3, .int (nI k)), (9, .int 0), (8, .int 0), (7, .int (nI ((k - 25) % 5))), (6, .int (nI (((k - 25) / 5) % 5))), (5, .int (nI ((k - 25) / 25))), (4, .int (nI k)), (0, .ref (ad 0)), (1, .int i)]) hx hb dX8_rings_269 rfl hl (by decide) rfl (fun ls hl => ?_)
                            refine lv_iinc (v := (nI (k + 1))) (lv' := [(4, .int (nI (k + 1))), (2, .int 0), (3, .int (nI k)), (9, .int 0), (8, .int 0), (7, .int (nI ((k - 25) % 5))), (6, .int (nI (((k - 25) / 5) % 5))), (5, .int (nI ((k - 25) / 25))), (0, .ref (ad 0)), (1, .int i)]) hx hb dX8_rings_270 hl (k := 7) rfl (mi_add rfl rfl) (by decide) rfl (fun ls hl => ?_)
                            refine lv_goto (tgt := 24) hx hb dX8_rings_273 (by decide) ?_
                            exact ih24  (k + 1) (nI k) 0 (by omega) (by rw [fmx, ← hfm, show msS σ np nc ld k = 0 from by unfold msS; rw [if_neg (by omega), if_neg (by omega)]]; dsimp only; rw [if_pos (Int32.not_le.mp c_25)]) (by omega) ls (lv_sub hl [0, 2, 1, 8, 9] rfl)
                      · skip
                        exact absurd c_24 (by decide)
                    · skip
                      exact absurd c_23 (by decide)
                  · have nc_22 : ((k - 25) / 5) % 5 < np := mi_nle hF.n rfl (by omega) (by omega) c_22
                    refine lv_iload hx hb dX8_rings_119 (lv_at hl 0 rfl) ?_
                    refine lv_aload_n hx hb dX8_rings_121 rfl (lv_at hl 6 rfl) ?_
                    refine mg_get hx hb hts in_X8 hown hE hP 0 (yl_n hA (by decide)) rfl rfl 0 rfl (by decide) (hts _ q764) (fun _ h9 => h9) dX8_rings_122 ?_
                    refine lv_icmp_ge (tgt := 158) hx hb dX8_rings_125 (by decide) (fun c_28 => ?_) (fun c_28 => ?_)
                    · have nc_28 : np ≤ (k - 25) % 5 := mi_le hF.n rfl (by omega) (by omega) c_28
                      refine lv_iconst (v := 0) hx hb dX8_rings_158 (by decide) ?_
                      refine lv_istore (lv' := [(8, .int 0), (7, .int (nI ((k - 25) % 5))), (6, .int (nI (((k - 25) / 5) % 5))), (5, .int (nI ((k - 25) / 25))), (4, .int (nI k)), (3, .int B), (2, .int Mo), (0, .ref (ad 0)), (1, .int i)]) hx hb dX8_rings_159 hl (by decide) rfl (fun ls hl => ?_)
                      refine lv_iload hx hb dX8_rings_161 (lv_at hl 0 rfl) ?_
                      refine lv_if_eq (tgt := 220) hx hb dX8_rings_163 (by decide) (fun c_29 => ?_) (fun c_29 => ?_)
                      · skip
                        refine lv_iconst (v := 0) hx hb dX8_rings_220 (by decide) ?_
                        refine lv_istore (lv' := [(8, .int 0), (7, .int (nI ((k - 25) % 5))), (6, .int (nI (((k - 25) / 5) % 5))), (5, .int (nI ((k - 25) / 25))), (4, .int (nI k)), (3, .int B), (2, .int Mo), (0, .ref (ad 0)), (1, .int i)]) hx hb dX8_rings_221 hl (by decide) rfl (fun ls hl => ?_)
                        refine lv_iload hx hb dX8_rings_223 (lv_at hl 0 rfl) ?_
                        refine lv_if_eq (tgt := 241) hx hb dX8_rings_225 (by decide) (fun c_30 => ?_) (fun c_30 => ?_)
                        · skip
                          refine lv_iconst (v := 0) hx hb dX8_rings_241 (by decide) ?_
                          refine lv_istore (lv' := [(9, .int 0), (8, .int 0), (7, .int (nI ((k - 25) % 5))), (6, .int (nI (((k - 25) / 5) % 5))), (5, .int (nI ((k - 25) / 25))), (4, .int (nI k)), (3, .int B), (2, .int Mo), (0, .ref (ad 0)), (1, .int i)]) hx hb dX8_rings_242 hl (by decide) rfl (fun ls hl => ?_)
                          refine lv_iload hx hb dX8_rings_244 (lv_at hl 0 rfl) ?_
                          refine lv_iload_n hx hb dX8_rings_246 rfl (lv_at hl 7 rfl) ?_
                          refine lv_icmp_le (tgt := 255) hx hb dX8_rings_247 (by decide) (fun c_31 => ?_) (fun c_31 => ?_)
                          · skip
                            refine lv_iload_n hx hb dX8_rings_255 rfl (lv_at hl 6 rfl) ?_
                            refine lv_istore_n (lv' := [(3, .int B), (9, .int 0), (8, .int 0), (7, .int (nI ((k - 25) % 5))), (6, .int (nI (((k - 25) / 5) % 5))), (5, .int (nI ((k - 25) / 25))), (4, .int (nI k)), (2, .int Mo), (0, .ref (ad 0)), (1, .int i)]) hx hb dX8_rings_256 rfl hl (by decide) rfl (fun ls hl => ?_)
                            refine lv_iload hx hb dX8_rings_257 (lv_at hl 1 rfl) ?_
                            refine lv_iload_n hx hb dX8_rings_259 rfl (lv_at hl 7 rfl) ?_
                            refine lv_icmp_le (tgt := 268) hx hb dX8_rings_260 (by decide) (fun c_32 => ?_) (fun c_32 => ?_)
                            · skip
                              refine lv_iload_n hx hb dX8_rings_268 rfl (lv_at hl 7 rfl) ?_
                              refine lv_istore_n (lv' := [(2, .int Mo), (3, .int B), (9, .int 0), (8, .int 0), (7, .int (nI ((k - 25) % 5))), (6, .int (nI (((k - 25) / 5) % 5))), (5, .int (nI ((k - 25) / 25))), (4, .int (nI k)), (0, .ref (ad 0)), (1, .int i)]) hx hb dX8_rings_269 rfl hl (by decide) rfl (fun ls hl => ?_)
                              refine lv_iinc (v := (nI (k + 1))) (lv' := [(4, .int (nI (k + 1))), (2, .int Mo), (3, .int B), (9, .int 0), (8, .int 0), (7, .int (nI ((k - 25) % 5))), (6, .int (nI (((k - 25) / 5) % 5))), (5, .int (nI ((k - 25) / 25))), (0, .ref (ad 0)), (1, .int i)]) hx hb dX8_rings_270 hl (k := 7) rfl (mi_add rfl rfl) (by decide) rfl (fun ls hl => ?_)
                              refine lv_goto (tgt := 24) hx hb dX8_rings_273 (by decide) ?_
                              exact ih24  (k + 1) B Mo (by omega) (by rw [fmx, ← hfm, show msS σ np nc ld k = 0 from by unfold msS; rw [if_neg (by omega), if_neg (by omega)]]; dsimp only; rw [if_neg (Int32.not_lt.mpr c_31)]) (by omega) ls (lv_sub hl [0, 2, 1, 8, 9] rfl)
                            · skip
                              exact absurd c_31 c_32
                          · skip
                            refine lv_iload hx hb dX8_rings_250 (lv_at hl 5 rfl) ?_
                            refine lv_goto (tgt := 256) hx hb dX8_rings_252 (by decide) ?_
                            refine lv_istore_n (lv' := [(3, .int (nI k)), (9, .int 0), (8, .int 0), (7, .int (nI ((k - 25) % 5))), (6, .int (nI (((k - 25) / 5) % 5))), (5, .int (nI ((k - 25) / 25))), (4, .int (nI k)), (2, .int Mo), (0, .ref (ad 0)), (1, .int i)]) hx hb dX8_rings_256 rfl hl (by decide) rfl (fun ls hl => ?_)
                            refine lv_iload hx hb dX8_rings_257 (lv_at hl 1 rfl) ?_
                            refine lv_iload_n hx hb dX8_rings_259 rfl (lv_at hl 7 rfl) ?_
                            refine lv_icmp_le (tgt := 268) hx hb dX8_rings_260 (by decide) (fun c_33 => ?_) (fun c_33 => ?_)
                            · skip
                              exact absurd c_33 c_31
                            · skip
                              refine lv_iload hx hb dX8_rings_263 (lv_at hl 1 rfl) ?_
                              refine lv_goto (tgt := 269) hx hb dX8_rings_265 (by decide) ?_
                              refine lv_istore_n (lv' := [(2, .int 0), (3, .int (nI k)), (9, .int 0), (8, .int 0), (7, .int (nI ((k - 25) % 5))), (6, .int (nI (((k - 25) / 5) % 5))), (5, .int (nI ((k - 25) / 25))), (4, .int (nI k)), (0, .ref (ad 0)), (1, .int i)]) hx hb dX8_rings_269 rfl hl (by decide) rfl (fun ls hl => ?_)
                              refine lv_iinc (v := (nI (k + 1))) (lv' := [(4, .int (nI (k + 1))), (2, .int 0), (3, .int (nI k)), (9, .int 0), (8, .int 0), (7, .int (nI ((k - 25) % 5))), (6, .int (nI (((k - 25) / 5) % 5))), (5, .int (nI ((k - 25) / 25))), (0, .ref (ad 0)), (1, .int i)]) hx hb dX8_rings_270 hl (k := 7) rfl (mi_add rfl rfl) (by decide) rfl (fun ls hl => ?_)
                              refine lv_goto (tgt := 24) hx hb dX8_rings_273 (by decide) ?_
                              exact ih24  (k + 1) (nI k) 0 (by omega) (by rw [fmx, ← hfm, show msS σ np nc ld k = 0 from by unfold msS; rw [if_neg (by omega), if_neg (by omega)]]; dsimp only; rw [if_pos (Int32.not_le.mp c_31)]) (by omega) ls (lv_sub hl [0, 2, 1, 8, 9] rfl)
                        · skip
                          exact absurd c_30 (by decide)
                      · skip
                        exact absurd c_29 (by decide)
                    · have nc_28 : (k - 25) % 5 < np := mi_nle hF.n rfl (by omega) (by omega) c_28
                      refine lv_iload hx hb dX8_rings_128 (lv_at hl 2 rfl) ?_
                      refine lv_iload hx hb dX8_rings_130 (lv_at hl 1 rfl) ?_
                      refine lv_icmp_ge (tgt := 158) hx hb dX8_rings_132 (by decide) (fun c_34 => ?_) (fun c_34 => ?_)
                      · have nc_34 : ((k - 25) / 5) % 5 ≤ (k - 25) / 25 := mi_le rfl rfl (by omega) (by omega) c_34
                        refine lv_iconst (v := 0) hx hb dX8_rings_158 (by decide) ?_
                        refine lv_istore (lv' := [(8, .int 0), (7, .int (nI ((k - 25) % 5))), (6, .int (nI (((k - 25) / 5) % 5))), (5, .int (nI ((k - 25) / 25))), (4, .int (nI k)), (3, .int B), (2, .int Mo), (0, .ref (ad 0)), (1, .int i)]) hx hb dX8_rings_159 hl (by decide) rfl (fun ls hl => ?_)
                        refine lv_iload hx hb dX8_rings_161 (lv_at hl 0 rfl) ?_
                        refine lv_if_eq (tgt := 220) hx hb dX8_rings_163 (by decide) (fun c_35 => ?_) (fun c_35 => ?_)
                        · skip
                          refine lv_iconst (v := 0) hx hb dX8_rings_220 (by decide) ?_
                          refine lv_istore (lv' := [(8, .int 0), (7, .int (nI ((k - 25) % 5))), (6, .int (nI (((k - 25) / 5) % 5))), (5, .int (nI ((k - 25) / 25))), (4, .int (nI k)), (3, .int B), (2, .int Mo), (0, .ref (ad 0)), (1, .int i)]) hx hb dX8_rings_221 hl (by decide) rfl (fun ls hl => ?_)
                          refine lv_iload hx hb dX8_rings_223 (lv_at hl 0 rfl) ?_
                          refine lv_if_eq (tgt := 241) hx hb dX8_rings_225 (by decide) (fun c_36 => ?_) (fun c_36 => ?_)
                          · skip
                            refine lv_iconst (v := 0) hx hb dX8_rings_241 (by decide) ?_
                            refine lv_istore (lv' := [(9, .int 0), (8, .int 0), (7, .int (nI ((k - 25) % 5))), (6, .int (nI (((k - 25) / 5) % 5))), (5, .int (nI ((k - 25) / 25))), (4, .int (nI k)), (3, .int B), (2, .int Mo), (0, .ref (ad 0)), (1, .int i)]) hx hb dX8_rings_242 hl (by decide) rfl (fun ls hl => ?_)
                            refine lv_iload hx hb dX8_rings_244 (lv_at hl 0 rfl) ?_
                            refine lv_iload_n hx hb dX8_rings_246 rfl (lv_at hl 7 rfl) ?_
                            refine lv_icmp_le (tgt := 255) hx hb dX8_rings_247 (by decide) (fun c_37 => ?_) (fun c_37 => ?_)
                            · skip
                              refine lv_iload_n hx hb dX8_rings_255 rfl (lv_at hl 6 rfl) ?_
                              refine lv_istore_n (lv' := [(3, .int B), (9, .int 0), (8, .int 0), (7, .int (nI ((k - 25) % 5))), (6, .int (nI (((k - 25) / 5) % 5))), (5, .int (nI ((k - 25) / 25))), (4, .int (nI k)), (2, .int Mo), (0, .ref (ad 0)), (1, .int i)]) hx hb dX8_rings_256 rfl hl (by decide) rfl (fun ls hl => ?_)
                              refine lv_iload hx hb dX8_rings_257 (lv_at hl 1 rfl) ?_
                              refine lv_iload_n hx hb dX8_rings_259 rfl (lv_at hl 7 rfl) ?_
                              refine lv_icmp_le (tgt := 268) hx hb dX8_rings_260 (by decide) (fun c_38 => ?_) (fun c_38 => ?_)
                              · skip
                                refine lv_iload_n hx hb dX8_rings_268 rfl (lv_at hl 7 rfl) ?_
                                refine lv_istore_n (lv' := [(2, .int Mo), (3, .int B), (9, .int 0), (8, .int 0), (7, .int (nI ((k - 25) % 5))), (6, .int (nI (((k - 25) / 5) % 5))), (5, .int (nI ((k - 25) / 25))), (4, .int (nI k)), (0, .ref (ad 0)), (1, .int i)]) hx hb dX8_rings_269 rfl hl (by decide) rfl (fun ls hl => ?_)
                                refine lv_iinc (v := (nI (k + 1))) (lv' := [(4, .int (nI (k + 1))), (2, .int Mo), (3, .int B), (9, .int 0), (8, .int 0), (7, .int (nI ((k - 25) % 5))), (6, .int (nI (((k - 25) / 5) % 5))), (5, .int (nI ((k - 25) / 25))), (0, .ref (ad 0)), (1, .int i)]) hx hb dX8_rings_270 hl (k := 7) rfl (mi_add rfl rfl) (by decide) rfl (fun ls hl => ?_)
                                refine lv_goto (tgt := 24) hx hb dX8_rings_273 (by decide) ?_
                                exact ih24  (k + 1) B Mo (by omega) (by rw [fmx, ← hfm, show msS σ np nc ld k = 0 from by unfold msS; rw [if_neg (by omega), if_neg (by omega)]]; dsimp only; rw [if_neg (Int32.not_lt.mpr c_37)]) (by omega) ls (lv_sub hl [0, 2, 1, 8, 9] rfl)
                              · skip
                                exact absurd c_37 c_38
                            · skip
                              refine lv_iload hx hb dX8_rings_250 (lv_at hl 5 rfl) ?_
                              refine lv_goto (tgt := 256) hx hb dX8_rings_252 (by decide) ?_
                              refine lv_istore_n (lv' := [(3, .int (nI k)), (9, .int 0), (8, .int 0), (7, .int (nI ((k - 25) % 5))), (6, .int (nI (((k - 25) / 5) % 5))), (5, .int (nI ((k - 25) / 25))), (4, .int (nI k)), (2, .int Mo), (0, .ref (ad 0)), (1, .int i)]) hx hb dX8_rings_256 rfl hl (by decide) rfl (fun ls hl => ?_)
                              refine lv_iload hx hb dX8_rings_257 (lv_at hl 1 rfl) ?_
                              refine lv_iload_n hx hb dX8_rings_259 rfl (lv_at hl 7 rfl) ?_
                              refine lv_icmp_le (tgt := 268) hx hb dX8_rings_260 (by decide) (fun c_39 => ?_) (fun c_39 => ?_)
                              · skip
                                exact absurd c_39 c_37
                              · skip
                                refine lv_iload hx hb dX8_rings_263 (lv_at hl 1 rfl) ?_
                                refine lv_goto (tgt := 269) hx hb dX8_rings_265 (by decide) ?_
                                refine lv_istore_n (lv' := [(2, .int 0), (3, .int (nI k)), (9, .int 0), (8, .int 0), (7, .int (nI ((k - 25) % 5))), (6, .int (nI (((k - 25) / 5) % 5))), (5, .int (nI ((k - 25) / 25))), (4, .int (nI k)), (0, .ref (ad 0)), (1, .int i)]) hx hb dX8_rings_269 rfl hl (by decide) rfl (fun ls hl => ?_)
                                refine lv_iinc (v := (nI (k + 1))) (lv' := [(4, .int (nI (k + 1))), (2, .int 0), (3, .int (nI k)), (9, .int 0), (8, .int 0), (7, .int (nI ((k - 25) % 5))), (6, .int (nI (((k - 25) / 5) % 5))), (5, .int (nI ((k - 25) / 25))), (0, .ref (ad 0)), (1, .int i)]) hx hb dX8_rings_270 hl (k := 7) rfl (mi_add rfl rfl) (by decide) rfl (fun ls hl => ?_)
                                refine lv_goto (tgt := 24) hx hb dX8_rings_273 (by decide) ?_
                                exact ih24  (k + 1) (nI k) 0 (by omega) (by rw [fmx, ← hfm, show msS σ np nc ld k = 0 from by unfold msS; rw [if_neg (by omega), if_neg (by omega)]]; dsimp only; rw [if_pos (Int32.not_le.mp c_37)]) (by omega) ls (lv_sub hl [0, 2, 1, 8, 9] rfl)
                          · skip
                            exact absurd c_36 (by decide)
                        · skip
                          exact absurd c_35 (by decide)
                      · have nc_34 : (k - 25) / 25 < ((k - 25) / 5) % 5 := mi_nle rfl rfl (by omega) (by omega) c_34
                        refine lv_iload hx hb dX8_rings_135 (lv_at hl 1 rfl) ?_
                        refine lv_iload hx hb dX8_rings_137 (lv_at hl 0 rfl) ?_
                        refine lv_icmp_eq (tgt := 158) hx hb dX8_rings_139 (by decide) (fun c_40 => ?_) (fun c_40 => ?_)
                        · have nc_40 : ((k - 25) / 5) % 5 = (k - 25) % 5 := mi_eq rfl rfl (by omega) (by omega) c_40
                          refine lv_iconst (v := 0) hx hb dX8_rings_158 (by decide) ?_
                          refine lv_istore (lv' := [(8, .int 0), (7, .int (nI ((k - 25) % 5))), (6, .int (nI (((k - 25) / 5) % 5))), (5, .int (nI ((k - 25) / 25))), (4, .int (nI k)), (3, .int B), (2, .int Mo), (0, .ref (ad 0)), (1, .int i)]) hx hb dX8_rings_159 hl (by decide) rfl (fun ls hl => ?_)
                          refine lv_iload hx hb dX8_rings_161 (lv_at hl 0 rfl) ?_
                          refine lv_if_eq (tgt := 220) hx hb dX8_rings_163 (by decide) (fun c_41 => ?_) (fun c_41 => ?_)
                          · skip
                            refine lv_iconst (v := 0) hx hb dX8_rings_220 (by decide) ?_
                            refine lv_istore (lv' := [(8, .int 0), (7, .int (nI ((k - 25) % 5))), (6, .int (nI (((k - 25) / 5) % 5))), (5, .int (nI ((k - 25) / 25))), (4, .int (nI k)), (3, .int B), (2, .int Mo), (0, .ref (ad 0)), (1, .int i)]) hx hb dX8_rings_221 hl (by decide) rfl (fun ls hl => ?_)
                            refine lv_iload hx hb dX8_rings_223 (lv_at hl 0 rfl) ?_
                            refine lv_if_eq (tgt := 241) hx hb dX8_rings_225 (by decide) (fun c_42 => ?_) (fun c_42 => ?_)
                            · skip
                              refine lv_iconst (v := 0) hx hb dX8_rings_241 (by decide) ?_
                              refine lv_istore (lv' := [(9, .int 0), (8, .int 0), (7, .int (nI ((k - 25) % 5))), (6, .int (nI (((k - 25) / 5) % 5))), (5, .int (nI ((k - 25) / 25))), (4, .int (nI k)), (3, .int B), (2, .int Mo), (0, .ref (ad 0)), (1, .int i)]) hx hb dX8_rings_242 hl (by decide) rfl (fun ls hl => ?_)
                              refine lv_iload hx hb dX8_rings_244 (lv_at hl 0 rfl) ?_
                              refine lv_iload_n hx hb dX8_rings_246 rfl (lv_at hl 7 rfl) ?_
                              refine lv_icmp_le (tgt := 255) hx hb dX8_rings_247 (by decide) (fun c_43 => ?_) (fun c_43 => ?_)
                              · skip
                                refine lv_iload_n hx hb dX8_rings_255 rfl (lv_at hl 6 rfl) ?_
                                refine lv_istore_n (lv' := [(3, .int B), (9, .int 0), (8, .int 0), (7, .int (nI ((k - 25) % 5))), (6, .int (nI (((k - 25) / 5) % 5))), (5, .int (nI ((k - 25) / 25))), (4, .int (nI k)), (2, .int Mo), (0, .ref (ad 0)), (1, .int i)]) hx hb dX8_rings_256 rfl hl (by decide) rfl (fun ls hl => ?_)
                                refine lv_iload hx hb dX8_rings_257 (lv_at hl 1 rfl) ?_
                                refine lv_iload_n hx hb dX8_rings_259 rfl (lv_at hl 7 rfl) ?_
                                refine lv_icmp_le (tgt := 268) hx hb dX8_rings_260 (by decide) (fun c_44 => ?_) (fun c_44 => ?_)
                                · skip
                                  refine lv_iload_n hx hb dX8_rings_268 rfl (lv_at hl 7 rfl) ?_
                                  refine lv_istore_n (lv' := [(2, .int Mo), (3, .int B), (9, .int 0), (8, .int 0), (7, .int (nI ((k - 25) % 5))), (6, .int (nI (((k - 25) / 5) % 5))), (5, .int (nI ((k - 25) / 25))), (4, .int (nI k)), (0, .ref (ad 0)), (1, .int i)]) hx hb dX8_rings_269 rfl hl (by decide) rfl (fun ls hl => ?_)
                                  refine lv_iinc (v := (nI (k + 1))) (lv' := [(4, .int (nI (k + 1))), (2, .int Mo), (3, .int B), (9, .int 0), (8, .int 0), (7, .int (nI ((k - 25) % 5))), (6, .int (nI (((k - 25) / 5) % 5))), (5, .int (nI ((k - 25) / 25))), (0, .ref (ad 0)), (1, .int i)]) hx hb dX8_rings_270 hl (k := 7) rfl (mi_add rfl rfl) (by decide) rfl (fun ls hl => ?_)
                                  refine lv_goto (tgt := 24) hx hb dX8_rings_273 (by decide) ?_
                                  exact ih24  (k + 1) B Mo (by omega) (by rw [fmx, ← hfm, show msS σ np nc ld k = 0 from by unfold msS; rw [if_neg (by omega), if_neg (by omega)]]; dsimp only; rw [if_neg (Int32.not_lt.mpr c_43)]) (by omega) ls (lv_sub hl [0, 2, 1, 8, 9] rfl)
                                · skip
                                  exact absurd c_43 c_44
                              · skip
                                refine lv_iload hx hb dX8_rings_250 (lv_at hl 5 rfl) ?_
                                refine lv_goto (tgt := 256) hx hb dX8_rings_252 (by decide) ?_
                                refine lv_istore_n (lv' := [(3, .int (nI k)), (9, .int 0), (8, .int 0), (7, .int (nI ((k - 25) % 5))), (6, .int (nI (((k - 25) / 5) % 5))), (5, .int (nI ((k - 25) / 25))), (4, .int (nI k)), (2, .int Mo), (0, .ref (ad 0)), (1, .int i)]) hx hb dX8_rings_256 rfl hl (by decide) rfl (fun ls hl => ?_)
                                refine lv_iload hx hb dX8_rings_257 (lv_at hl 1 rfl) ?_
                                refine lv_iload_n hx hb dX8_rings_259 rfl (lv_at hl 7 rfl) ?_
                                refine lv_icmp_le (tgt := 268) hx hb dX8_rings_260 (by decide) (fun c_45 => ?_) (fun c_45 => ?_)
                                · skip
                                  exact absurd c_45 c_43
                                · skip
                                  refine lv_iload hx hb dX8_rings_263 (lv_at hl 1 rfl) ?_
                                  refine lv_goto (tgt := 269) hx hb dX8_rings_265 (by decide) ?_
                                  refine lv_istore_n (lv' := [(2, .int 0), (3, .int (nI k)), (9, .int 0), (8, .int 0), (7, .int (nI ((k - 25) % 5))), (6, .int (nI (((k - 25) / 5) % 5))), (5, .int (nI ((k - 25) / 25))), (4, .int (nI k)), (0, .ref (ad 0)), (1, .int i)]) hx hb dX8_rings_269 rfl hl (by decide) rfl (fun ls hl => ?_)
                                  refine lv_iinc (v := (nI (k + 1))) (lv' := [(4, .int (nI (k + 1))), (2, .int 0), (3, .int (nI k)), (9, .int 0), (8, .int 0), (7, .int (nI ((k - 25) % 5))), (6, .int (nI (((k - 25) / 5) % 5))), (5, .int (nI ((k - 25) / 25))), (0, .ref (ad 0)), (1, .int i)]) hx hb dX8_rings_270 hl (k := 7) rfl (mi_add rfl rfl) (by decide) rfl (fun ls hl => ?_)
                                  refine lv_goto (tgt := 24) hx hb dX8_rings_273 (by decide) ?_
                                  exact ih24  (k + 1) (nI k) 0 (by omega) (by rw [fmx, ← hfm, show msS σ np nc ld k = 0 from by unfold msS; rw [if_neg (by omega), if_neg (by omega)]]; dsimp only; rw [if_pos (Int32.not_le.mp c_43)]) (by omega) ls (lv_sub hl [0, 2, 1, 8, 9] rfl)
                            · skip
                              exact absurd c_42 (by decide)
                          · skip
                            exact absurd c_41 (by decide)
                        · have nc_40 : ((k - 25) / 5) % 5 ≠ (k - 25) % 5 := mi_ne rfl rfl (by omega) (by omega) c_40
                          refine lv_iload hx hb dX8_rings_142 (lv_at hl 0 rfl) ?_
                          refine lv_if_lt (tgt := 154) hx hb dX8_rings_144 (by decide) (fun c_46 => ?_) (fun c_46 => ?_)
                          · have nc_46 : (k - 25) % 5 < 0 := mi_lt rfl rfl (by omega) (by omega) c_46
                            omega
                          · have nc_46 : 0 ≤ (k - 25) % 5 := mi_nlt rfl rfl (by omega) (by omega) c_46
                            refine lv_iload hx hb dX8_rings_147 (lv_at hl 2 rfl) ?_
                            refine lv_iload hx hb dX8_rings_149 (lv_at hl 0 rfl) ?_
                            refine lv_icmp_ge (tgt := 158) hx hb dX8_rings_151 (by decide) (fun c_47 => ?_) (fun c_47 => ?_)
                            · have nc_47 : (k - 25) % 5 ≤ (k - 25) / 25 := mi_le rfl rfl (by omega) (by omega) c_47
                              refine lv_iconst (v := 0) hx hb dX8_rings_158 (by decide) ?_
                              refine lv_istore (lv' := [(8, .int 0), (7, .int (nI ((k - 25) % 5))), (6, .int (nI (((k - 25) / 5) % 5))), (5, .int (nI ((k - 25) / 25))), (4, .int (nI k)), (3, .int B), (2, .int Mo), (0, .ref (ad 0)), (1, .int i)]) hx hb dX8_rings_159 hl (by decide) rfl (fun ls hl => ?_)
                              refine lv_iload hx hb dX8_rings_161 (lv_at hl 0 rfl) ?_
                              refine lv_if_eq (tgt := 220) hx hb dX8_rings_163 (by decide) (fun c_48 => ?_) (fun c_48 => ?_)
                              · skip
                                refine lv_iconst (v := 0) hx hb dX8_rings_220 (by decide) ?_
                                refine lv_istore (lv' := [(8, .int 0), (7, .int (nI ((k - 25) % 5))), (6, .int (nI (((k - 25) / 5) % 5))), (5, .int (nI ((k - 25) / 25))), (4, .int (nI k)), (3, .int B), (2, .int Mo), (0, .ref (ad 0)), (1, .int i)]) hx hb dX8_rings_221 hl (by decide) rfl (fun ls hl => ?_)
                                refine lv_iload hx hb dX8_rings_223 (lv_at hl 0 rfl) ?_
                                refine lv_if_eq (tgt := 241) hx hb dX8_rings_225 (by decide) (fun c_49 => ?_) (fun c_49 => ?_)
                                · skip
                                  refine lv_iconst (v := 0) hx hb dX8_rings_241 (by decide) ?_
                                  refine lv_istore (lv' := [(9, .int 0), (8, .int 0), (7, .int (nI ((k - 25) % 5))), (6, .int (nI (((k - 25) / 5) % 5))), (5, .int (nI ((k - 25) / 25))), (4, .int (nI k)), (3, .int B), (2, .int Mo), (0, .ref (ad 0)), (1, .int i)]) hx hb dX8_rings_242 hl (by decide) rfl (fun ls hl => ?_)
                                  refine lv_iload hx hb dX8_rings_244 (lv_at hl 0 rfl) ?_
                                  refine lv_iload_n hx hb dX8_rings_246 rfl (lv_at hl 7 rfl) ?_
                                  refine lv_icmp_le (tgt := 255) hx hb dX8_rings_247 (by decide) (fun c_50 => ?_) (fun c_50 => ?_)
                                  · skip
                                    refine lv_iload_n hx hb dX8_rings_255 rfl (lv_at hl 6 rfl) ?_
                                    refine lv_istore_n (lv' := [(3, .int B), (9, .int 0), (8, .int 0), (7, .int (nI ((k - 25) % 5))), (6, .int (nI (((k - 25) / 5) % 5))), (5, .int (nI ((k - 25) / 25))), (4, .int (nI k)), (2, .int Mo), (0, .ref (ad 0)), (1, .int i)]) hx hb dX8_rings_256 rfl hl (by decide) rfl (fun ls hl => ?_)
                                    refine lv_iload hx hb dX8_rings_257 (lv_at hl 1 rfl) ?_
                                    refine lv_iload_n hx hb dX8_rings_259 rfl (lv_at hl 7 rfl) ?_
                                    refine lv_icmp_le (tgt := 268) hx hb dX8_rings_260 (by decide) (fun c_51 => ?_) (fun c_51 => ?_)
                                    · skip
                                      refine lv_iload_n hx hb dX8_rings_268 rfl (lv_at hl 7 rfl) ?_
                                      refine lv_istore_n (lv' := [(2, .int Mo), (3, .int B), (9, .int 0), (8, .int 0), (7, .int (nI ((k - 25) % 5))), (6, .int (nI (((k - 25) / 5) % 5))), (5, .int (nI ((k - 25) / 25))), (4, .int (nI k)), (0, .ref (ad 0)), (1, .int i)]) hx hb dX8_rings_269 rfl hl (by decide) rfl (fun ls hl => ?_)
                                      refine lv_iinc (v := (nI (k + 1))) (lv' := [(4, .int (nI (k + 1))), (2, .int Mo), (3, .int B), (9, .int 0), (8, .int 0), (7, .int (nI ((k - 25) % 5))), (6, .int (nI (((k - 25) / 5) % 5))), (5, .int (nI ((k - 25) / 25))), (0, .ref (ad 0)), (1, .int i)]) hx hb dX8_rings_270 hl (k := 7) rfl (mi_add rfl rfl) (by decide) rfl (fun ls hl => ?_)
                                      refine lv_goto (tgt := 24) hx hb dX8_rings_273 (by decide) ?_
                                      exact ih24  (k + 1) B Mo (by omega) (by rw [fmx, ← hfm, show msS σ np nc ld k = 0 from by unfold msS; rw [if_neg (by omega), if_neg (by omega)]]; dsimp only; rw [if_neg (Int32.not_lt.mpr c_50)]) (by omega) ls (lv_sub hl [0, 2, 1, 8, 9] rfl)
                                    · skip
                                      exact absurd c_50 c_51
                                  · skip
                                    refine lv_iload hx hb dX8_rings_250 (lv_at hl 5 rfl) ?_
                                    refine lv_goto (tgt := 256) hx hb dX8_rings_252 (by decide) ?_
                                    refine lv_istore_n (lv' := [(3, .int (nI k)), (9, .int 0), (8, .int 0), (7, .int (nI ((k - 25) % 5))), (6, .int (nI (((k - 25) / 5) % 5))), (5, .int (nI ((k - 25) / 25))), (4, .int (nI k)), (2, .int Mo), (0, .ref (ad 0)), (1, .int i)]) hx hb dX8_rings_256 rfl hl (by decide) rfl (fun ls hl => ?_)
                                    refine lv_iload hx hb dX8_rings_257 (lv_at hl 1 rfl) ?_
                                    refine lv_iload_n hx hb dX8_rings_259 rfl (lv_at hl 7 rfl) ?_
                                    refine lv_icmp_le (tgt := 268) hx hb dX8_rings_260 (by decide) (fun c_52 => ?_) (fun c_52 => ?_)
                                    · skip
                                      exact absurd c_52 c_50
                                    · skip
                                      refine lv_iload hx hb dX8_rings_263 (lv_at hl 1 rfl) ?_
                                      refine lv_goto (tgt := 269) hx hb dX8_rings_265 (by decide) ?_
                                      refine lv_istore_n (lv' := [(2, .int 0), (3, .int (nI k)), (9, .int 0), (8, .int 0), (7, .int (nI ((k - 25) % 5))), (6, .int (nI (((k - 25) / 5) % 5))), (5, .int (nI ((k - 25) / 25))), (4, .int (nI k)), (0, .ref (ad 0)), (1, .int i)]) hx hb dX8_rings_269 rfl hl (by decide) rfl (fun ls hl => ?_)
                                      refine lv_iinc (v := (nI (k + 1))) (lv' := [(4, .int (nI (k + 1))), (2, .int 0), (3, .int (nI k)), (9, .int 0), (8, .int 0), (7, .int (nI ((k - 25) % 5))), (6, .int (nI (((k - 25) / 5) % 5))), (5, .int (nI ((k - 25) / 25))), (0, .ref (ad 0)), (1, .int i)]) hx hb dX8_rings_270 hl (k := 7) rfl (mi_add rfl rfl) (by decide) rfl (fun ls hl => ?_)
                                      refine lv_goto (tgt := 24) hx hb dX8_rings_273 (by decide) ?_
                                      exact ih24  (k + 1) (nI k) 0 (by omega) (by rw [fmx, ← hfm, show msS σ np nc ld k = 0 from by unfold msS; rw [if_neg (by omega), if_neg (by omega)]]; dsimp only; rw [if_pos (Int32.not_le.mp c_50)]) (by omega) ls (lv_sub hl [0, 2, 1, 8, 9] rfl)
                                · skip
                                  exact absurd c_49 (by decide)
                              · skip
                                exact absurd c_48 (by decide)
                            · have nc_47 : (k - 25) / 25 < (k - 25) % 5 := mi_nle rfl rfl (by omega) (by omega) c_47
                              refine lv_iconst (v := 1) hx hb dX8_rings_154 (by decide) ?_
                              refine lv_goto (tgt := 159) hx hb dX8_rings_155 (by decide) ?_
                              refine lv_istore (lv' := [(8, .int 1), (7, .int (nI ((k - 25) % 5))), (6, .int (nI (((k - 25) / 5) % 5))), (5, .int (nI ((k - 25) / 25))), (4, .int (nI k)), (3, .int B), (2, .int Mo), (0, .ref (ad 0)), (1, .int i)]) hx hb dX8_rings_159 hl (by decide) rfl (fun ls hl => ?_)
                              refine lv_iload hx hb dX8_rings_161 (lv_at hl 0 rfl) ?_
                              refine lv_if_eq (tgt := 220) hx hb dX8_rings_163 (by decide) (fun c_53 => ?_) (fun c_53 => ?_)
                              · skip
                                exact absurd c_53 (by decide)
                              · skip
                                have e80 := hF.m8 (p := (k - 25) / 25) (by omega)
                                refine lv_aload_n hx hb dX8_rings_166 rfl (lv_at hl 7 rfl) ?_
                                refine mg_ref hx hb hts in_X8 hown hE hP 0 (yl_n hA (by decide)) rfl rfl 1 rfl (by decide) (hts _ q765) (fun _ h9 => h9) dX8_rings_167 ?_
                                refine lv_bipush (v := 40) hx hb dX8_rings_170 (by decide) ?_
                                refine lv_iload hx hb dX8_rings_172 (lv_at hl 3 rfl) ?_
                                refine lv_imul hx hb dX8_rings_174 ?_
                                refine lv_iconst (v := 3) hx hb dX8_rings_175 (by decide) ?_
                                refine lv_iadd hx hb dX8_rings_176 ?_
                                refine mg_ild hx hb hE hP 1 (yl_n hA (by decide)) rfl ((40 * ((k - 25) / 25)) + 3) (by omega) (mi_add (mi_mul rfl rfl) rfl) (by decide) dX8_rings_177 ?_
                                refine lv_if_le (tgt := 220) hx hb dX8_rings_178 (by decide) (fun c_54 => ?_) (fun c_54 => ?_)
                                · have nc_54 : nc ((k - 25) / 25) ≤ 0 := mi_le (hF.m (by omega)) rfl (by omega) (by omega) c_54
                                  refine lv_iconst (v := 0) hx hb dX8_rings_220 (by decide) ?_
                                  refine lv_istore (lv' := [(8, .int 0), (7, .int (nI ((k - 25) % 5))), (6, .int (nI (((k - 25) / 5) % 5))), (5, .int (nI ((k - 25) / 25))), (4, .int (nI k)), (3, .int B), (2, .int Mo), (0, .ref (ad 0)), (1, .int i)]) hx hb dX8_rings_221 hl (by decide) rfl (fun ls hl => ?_)
                                  refine lv_iload hx hb dX8_rings_223 (lv_at hl 0 rfl) ?_
                                  refine lv_if_eq (tgt := 241) hx hb dX8_rings_225 (by decide) (fun c_55 => ?_) (fun c_55 => ?_)
                                  · skip
                                    refine lv_iconst (v := 0) hx hb dX8_rings_241 (by decide) ?_
                                    refine lv_istore (lv' := [(9, .int 0), (8, .int 0), (7, .int (nI ((k - 25) % 5))), (6, .int (nI (((k - 25) / 5) % 5))), (5, .int (nI ((k - 25) / 25))), (4, .int (nI k)), (3, .int B), (2, .int Mo), (0, .ref (ad 0)), (1, .int i)]) hx hb dX8_rings_242 hl (by decide) rfl (fun ls hl => ?_)
                                    refine lv_iload hx hb dX8_rings_244 (lv_at hl 0 rfl) ?_
                                    refine lv_iload_n hx hb dX8_rings_246 rfl (lv_at hl 7 rfl) ?_
                                    refine lv_icmp_le (tgt := 255) hx hb dX8_rings_247 (by decide) (fun c_56 => ?_) (fun c_56 => ?_)
                                    · skip
                                      refine lv_iload_n hx hb dX8_rings_255 rfl (lv_at hl 6 rfl) ?_
                                      refine lv_istore_n (lv' := [(3, .int B), (9, .int 0), (8, .int 0), (7, .int (nI ((k - 25) % 5))), (6, .int (nI (((k - 25) / 5) % 5))), (5, .int (nI ((k - 25) / 25))), (4, .int (nI k)), (2, .int Mo), (0, .ref (ad 0)), (1, .int i)]) hx hb dX8_rings_256 rfl hl (by decide) rfl (fun ls hl => ?_)
                                      refine lv_iload hx hb dX8_rings_257 (lv_at hl 1 rfl) ?_
                                      refine lv_iload_n hx hb dX8_rings_259 rfl (lv_at hl 7 rfl) ?_
                                      refine lv_icmp_le (tgt := 268) hx hb dX8_rings_260 (by decide) (fun c_57 => ?_) (fun c_57 => ?_)
                                      · skip
                                        refine lv_iload_n hx hb dX8_rings_268 rfl (lv_at hl 7 rfl) ?_
                                        refine lv_istore_n (lv' := [(2, .int Mo), (3, .int B), (9, .int 0), (8, .int 0), (7, .int (nI ((k - 25) % 5))), (6, .int (nI (((k - 25) / 5) % 5))), (5, .int (nI ((k - 25) / 25))), (4, .int (nI k)), (0, .ref (ad 0)), (1, .int i)]) hx hb dX8_rings_269 rfl hl (by decide) rfl (fun ls hl => ?_)
                                        refine lv_iinc (v := (nI (k + 1))) (lv' := [(4, .int (nI (k + 1))), (2, .int Mo), (3, .int B), (9, .int 0), (8, .int 0), (7, .int (nI ((k - 25) % 5))), (6, .int (nI (((k - 25) / 5) % 5))), (5, .int (nI ((k - 25) / 25))), (0, .ref (ad 0)), (1, .int i)]) hx hb dX8_rings_270 hl (k := 7) rfl (mi_add rfl rfl) (by decide) rfl (fun ls hl => ?_)
                                        refine lv_goto (tgt := 24) hx hb dX8_rings_273 (by decide) ?_
                                        exact ih24  (k + 1) B Mo (by omega) (by rw [fmx, ← hfm, show msS σ np nc ld k = 0 from by unfold msS; rw [if_neg (by omega), if_neg (by omega)]]; dsimp only; rw [if_neg (Int32.not_lt.mpr c_56)]) (by omega) ls (lv_sub hl [0, 2, 1, 8, 9] rfl)
                                      · skip
                                        exact absurd c_56 c_57
                                    · skip
                                      refine lv_iload hx hb dX8_rings_250 (lv_at hl 5 rfl) ?_
                                      refine lv_goto (tgt := 256) hx hb dX8_rings_252 (by decide) ?_
                                      refine lv_istore_n (lv' := [(3, .int (nI k)), (9, .int 0), (8, .int 0), (7, .int (nI ((k - 25) % 5))), (6, .int (nI (((k - 25) / 5) % 5))), (5, .int (nI ((k - 25) / 25))), (4, .int (nI k)), (2, .int Mo), (0, .ref (ad 0)), (1, .int i)]) hx hb dX8_rings_256 rfl hl (by decide) rfl (fun ls hl => ?_)
                                      refine lv_iload hx hb dX8_rings_257 (lv_at hl 1 rfl) ?_
                                      refine lv_iload_n hx hb dX8_rings_259 rfl (lv_at hl 7 rfl) ?_
                                      refine lv_icmp_le (tgt := 268) hx hb dX8_rings_260 (by decide) (fun c_58 => ?_) (fun c_58 => ?_)
                                      · skip
                                        exact absurd c_58 c_56
                                      · skip
                                        refine lv_iload hx hb dX8_rings_263 (lv_at hl 1 rfl) ?_
                                        refine lv_goto (tgt := 269) hx hb dX8_rings_265 (by decide) ?_
                                        refine lv_istore_n (lv' := [(2, .int 0), (3, .int (nI k)), (9, .int 0), (8, .int 0), (7, .int (nI ((k - 25) % 5))), (6, .int (nI (((k - 25) / 5) % 5))), (5, .int (nI ((k - 25) / 25))), (4, .int (nI k)), (0, .ref (ad 0)), (1, .int i)]) hx hb dX8_rings_269 rfl hl (by decide) rfl (fun ls hl => ?_)
                                        refine lv_iinc (v := (nI (k + 1))) (lv' := [(4, .int (nI (k + 1))), (2, .int 0), (3, .int (nI k)), (9, .int 0), (8, .int 0), (7, .int (nI ((k - 25) % 5))), (6, .int (nI (((k - 25) / 5) % 5))), (5, .int (nI ((k - 25) / 25))), (0, .ref (ad 0)), (1, .int i)]) hx hb dX8_rings_270 hl (k := 7) rfl (mi_add rfl rfl) (by decide) rfl (fun ls hl => ?_)
                                        refine lv_goto (tgt := 24) hx hb dX8_rings_273 (by decide) ?_
                                        exact ih24  (k + 1) (nI k) 0 (by omega) (by rw [fmx, ← hfm, show msS σ np nc ld k = 0 from by unfold msS; rw [if_neg (by omega), if_neg (by omega)]]; dsimp only; rw [if_pos (Int32.not_le.mp c_56)]) (by omega) ls (lv_sub hl [0, 2, 1, 8, 9] rfl)
                                  · skip
                                    exact absurd c_55 (by decide)
                                · have nc_54 : 0 < nc ((k - 25) / 25) := mi_nle (hF.m (by omega)) rfl (by omega) (by omega) c_54
                                  have e81 := hF.m8 (p := ((k - 25) / 5) % 5) (by omega)
                                  refine lv_aload_n hx hb dX8_rings_181 rfl (lv_at hl 7 rfl) ?_
                                  refine mg_ref hx hb hts in_X8 hown hE hP 0 (yl_n hA (by decide)) rfl rfl 1 rfl (by decide) (hts _ q765) (fun _ h9 => h9) dX8_rings_182 ?_
                                  refine lv_bipush (v := 40) hx hb dX8_rings_185 (by decide) ?_
                                  refine lv_iload hx hb dX8_rings_187 (lv_at hl 2 rfl) ?_
                                  refine lv_imul hx hb dX8_rings_189 ?_
                                  refine lv_iconst (v := 3) hx hb dX8_rings_190 (by decide) ?_
                                  refine lv_iadd hx hb dX8_rings_191 ?_
                                  refine mg_ild hx hb hE hP 1 (yl_n hA (by decide)) rfl ((40 * (((k - 25) / 5) % 5)) + 3) (by omega) (mi_add (mi_mul rfl rfl) rfl) (by decide) dX8_rings_192 ?_
                                  refine lv_if_le (tgt := 220) hx hb dX8_rings_193 (by decide) (fun c_59 => ?_) (fun c_59 => ?_)
                                  · have nc_59 : nc (((k - 25) / 5) % 5) ≤ 0 := mi_le (hF.m (by omega)) rfl (by omega) (by omega) c_59
                                    refine lv_iconst (v := 0) hx hb dX8_rings_220 (by decide) ?_
                                    refine lv_istore (lv' := [(8, .int 0), (7, .int (nI ((k - 25) % 5))), (6, .int (nI (((k - 25) / 5) % 5))), (5, .int (nI ((k - 25) / 25))), (4, .int (nI k)), (3, .int B), (2, .int Mo), (0, .ref (ad 0)), (1, .int i)]) hx hb dX8_rings_221 hl (by decide) rfl (fun ls hl => ?_)
                                    refine lv_iload hx hb dX8_rings_223 (lv_at hl 0 rfl) ?_
                                    refine lv_if_eq (tgt := 241) hx hb dX8_rings_225 (by decide) (fun c_60 => ?_) (fun c_60 => ?_)
                                    · skip
                                      refine lv_iconst (v := 0) hx hb dX8_rings_241 (by decide) ?_
                                      refine lv_istore (lv' := [(9, .int 0), (8, .int 0), (7, .int (nI ((k - 25) % 5))), (6, .int (nI (((k - 25) / 5) % 5))), (5, .int (nI ((k - 25) / 25))), (4, .int (nI k)), (3, .int B), (2, .int Mo), (0, .ref (ad 0)), (1, .int i)]) hx hb dX8_rings_242 hl (by decide) rfl (fun ls hl => ?_)
                                      refine lv_iload hx hb dX8_rings_244 (lv_at hl 0 rfl) ?_
                                      refine lv_iload_n hx hb dX8_rings_246 rfl (lv_at hl 7 rfl) ?_
                                      refine lv_icmp_le (tgt := 255) hx hb dX8_rings_247 (by decide) (fun c_61 => ?_) (fun c_61 => ?_)
                                      · skip
                                        refine lv_iload_n hx hb dX8_rings_255 rfl (lv_at hl 6 rfl) ?_
                                        refine lv_istore_n (lv' := [(3, .int B), (9, .int 0), (8, .int 0), (7, .int (nI ((k - 25) % 5))), (6, .int (nI (((k - 25) / 5) % 5))), (5, .int (nI ((k - 25) / 25))), (4, .int (nI k)), (2, .int Mo), (0, .ref (ad 0)), (1, .int i)]) hx hb dX8_rings_256 rfl hl (by decide) rfl (fun ls hl => ?_)
                                        refine lv_iload hx hb dX8_rings_257 (lv_at hl 1 rfl) ?_
                                        refine lv_iload_n hx hb dX8_rings_259 rfl (lv_at hl 7 rfl) ?_
                                        refine lv_icmp_le (tgt := 268) hx hb dX8_rings_260 (by decide) (fun c_62 => ?_) (fun c_62 => ?_)
                                        · skip
                                          refine lv_iload_n hx hb dX8_rings_268 rfl (lv_at hl 7 rfl) ?_
                                          refine lv_istore_n (lv' := [(2, .int Mo), (3, .int B), (9, .int 0), (8, .int 0), (7, .int (nI ((k - 25) % 5))), (6, .int (nI (((k - 25) / 5) % 5))), (5, .int (nI ((k - 25) / 25))), (4, .int (nI k)), (0, .ref (ad 0)), (1, .int i)]) hx hb dX8_rings_269 rfl hl (by decide) rfl (fun ls hl => ?_)
                                          refine lv_iinc (v := (nI (k + 1))) (lv' := [(4, .int (nI (k + 1))), (2, .int Mo), (3, .int B), (9, .int 0), (8, .int 0), (7, .int (nI ((k - 25) % 5))), (6, .int (nI (((k - 25) / 5) % 5))), (5, .int (nI ((k - 25) / 25))), (0, .ref (ad 0)), (1, .int i)]) hx hb dX8_rings_270 hl (k := 7) rfl (mi_add rfl rfl) (by decide) rfl (fun ls hl => ?_)
                                          refine lv_goto (tgt := 24) hx hb dX8_rings_273 (by decide) ?_
                                          exact ih24  (k + 1) B Mo (by omega) (by rw [fmx, ← hfm, show msS σ np nc ld k = 0 from by unfold msS; rw [if_neg (by omega), if_neg (by omega)]]; dsimp only; rw [if_neg (Int32.not_lt.mpr c_61)]) (by omega) ls (lv_sub hl [0, 2, 1, 8, 9] rfl)
                                        · skip
                                          exact absurd c_61 c_62
                                      · skip
                                        refine lv_iload hx hb dX8_rings_250 (lv_at hl 5 rfl) ?_
                                        refine lv_goto (tgt := 256) hx hb dX8_rings_252 (by decide) ?_
                                        refine lv_istore_n (lv' := [(3, .int (nI k)), (9, .int 0), (8, .int 0), (7, .int (nI ((k - 25) % 5))), (6, .int (nI (((k - 25) / 5) % 5))), (5, .int (nI ((k - 25) / 25))), (4, .int (nI k)), (2, .int Mo), (0, .ref (ad 0)), (1, .int i)]) hx hb dX8_rings_256 rfl hl (by decide) rfl (fun ls hl => ?_)
                                        refine lv_iload hx hb dX8_rings_257 (lv_at hl 1 rfl) ?_
                                        refine lv_iload_n hx hb dX8_rings_259 rfl (lv_at hl 7 rfl) ?_
                                        refine lv_icmp_le (tgt := 268) hx hb dX8_rings_260 (by decide) (fun c_63 => ?_) (fun c_63 => ?_)
                                        · skip
                                          exact absurd c_63 c_61
                                        · skip
                                          refine lv_iload hx hb dX8_rings_263 (lv_at hl 1 rfl) ?_
                                          refine lv_goto (tgt := 269) hx hb dX8_rings_265 (by decide) ?_
                                          refine lv_istore_n (lv' := [(2, .int 0), (3, .int (nI k)), (9, .int 0), (8, .int 0), (7, .int (nI ((k - 25) % 5))), (6, .int (nI (((k - 25) / 5) % 5))), (5, .int (nI ((k - 25) / 25))), (4, .int (nI k)), (0, .ref (ad 0)), (1, .int i)]) hx hb dX8_rings_269 rfl hl (by decide) rfl (fun ls hl => ?_)
                                          refine lv_iinc (v := (nI (k + 1))) (lv' := [(4, .int (nI (k + 1))), (2, .int 0), (3, .int (nI k)), (9, .int 0), (8, .int 0), (7, .int (nI ((k - 25) % 5))), (6, .int (nI (((k - 25) / 5) % 5))), (5, .int (nI ((k - 25) / 25))), (0, .ref (ad 0)), (1, .int i)]) hx hb dX8_rings_270 hl (k := 7) rfl (mi_add rfl rfl) (by decide) rfl (fun ls hl => ?_)
                                          refine lv_goto (tgt := 24) hx hb dX8_rings_273 (by decide) ?_
                                          exact ih24  (k + 1) (nI k) 0 (by omega) (by rw [fmx, ← hfm, show msS σ np nc ld k = 0 from by unfold msS; rw [if_neg (by omega), if_neg (by omega)]]; dsimp only; rw [if_pos (Int32.not_le.mp c_61)]) (by omega) ls (lv_sub hl [0, 2, 1, 8, 9] rfl)
                                    · skip
                                      exact absurd c_60 (by decide)
                                  · have nc_59 : 0 < nc (((k - 25) / 5) % 5) := mi_nle (hF.m (by omega)) rfl (by omega) (by omega) c_59
                                    refine lv_iload hx hb dX8_rings_196 (lv_at hl 1 rfl) ?_
                                    refine lv_if_lt (tgt := 216) hx hb dX8_rings_198 (by decide) (fun c_64 => ?_) (fun c_64 => ?_)
                                    · have nc_64 : (k - 25) % 5 < 0 := mi_lt rfl rfl (by omega) (by omega) c_64
                                      omega
                                    · have nc_64 : 0 ≤ (k - 25) % 5 := mi_nlt rfl rfl (by omega) (by omega) c_64
                                      have e82 := hF.m8 (p := (k - 25) % 5) (by omega)
                                      refine lv_aload_n hx hb dX8_rings_201 rfl (lv_at hl 7 rfl) ?_
                                      refine mg_ref hx hb hts in_X8 hown hE hP 0 (yl_n hA (by decide)) rfl rfl 1 rfl (by decide) (hts _ q765) (fun _ h9 => h9) dX8_rings_202 ?_
                                      refine lv_bipush (v := 40) hx hb dX8_rings_205 (by decide) ?_
                                      refine lv_iload hx hb dX8_rings_207 (lv_at hl 1 rfl) ?_
                                      refine lv_imul hx hb dX8_rings_209 ?_
                                      refine lv_iconst (v := 3) hx hb dX8_rings_210 (by decide) ?_
                                      refine lv_iadd hx hb dX8_rings_211 ?_
                                      refine mg_ild hx hb hE hP 1 (yl_n hA (by decide)) rfl ((40 * ((k - 25) % 5)) + 3) (by omega) (mi_add (mi_mul rfl rfl) rfl) (by decide) dX8_rings_212 ?_
                                      refine lv_if_le (tgt := 220) hx hb dX8_rings_213 (by decide) (fun c_65 => ?_) (fun c_65 => ?_)
                                      · have nc_65 : nc ((k - 25) % 5) ≤ 0 := mi_le (hF.m (by omega)) rfl (by omega) (by omega) c_65
                                        refine lv_iconst (v := 0) hx hb dX8_rings_220 (by decide) ?_
                                        refine lv_istore (lv' := [(8, .int 0), (7, .int (nI ((k - 25) % 5))), (6, .int (nI (((k - 25) / 5) % 5))), (5, .int (nI ((k - 25) / 25))), (4, .int (nI k)), (3, .int B), (2, .int Mo), (0, .ref (ad 0)), (1, .int i)]) hx hb dX8_rings_221 hl (by decide) rfl (fun ls hl => ?_)
                                        refine lv_iload hx hb dX8_rings_223 (lv_at hl 0 rfl) ?_
                                        refine lv_if_eq (tgt := 241) hx hb dX8_rings_225 (by decide) (fun c_66 => ?_) (fun c_66 => ?_)
                                        · skip
                                          refine lv_iconst (v := 0) hx hb dX8_rings_241 (by decide) ?_
                                          refine lv_istore (lv' := [(9, .int 0), (8, .int 0), (7, .int (nI ((k - 25) % 5))), (6, .int (nI (((k - 25) / 5) % 5))), (5, .int (nI ((k - 25) / 25))), (4, .int (nI k)), (3, .int B), (2, .int Mo), (0, .ref (ad 0)), (1, .int i)]) hx hb dX8_rings_242 hl (by decide) rfl (fun ls hl => ?_)
                                          refine lv_iload hx hb dX8_rings_244 (lv_at hl 0 rfl) ?_
                                          refine lv_iload_n hx hb dX8_rings_246 rfl (lv_at hl 7 rfl) ?_
                                          refine lv_icmp_le (tgt := 255) hx hb dX8_rings_247 (by decide) (fun c_67 => ?_) (fun c_67 => ?_)
                                          · skip
                                            refine lv_iload_n hx hb dX8_rings_255 rfl (lv_at hl 6 rfl) ?_
                                            refine lv_istore_n (lv' := [(3, .int B), (9, .int 0), (8, .int 0), (7, .int (nI ((k - 25) % 5))), (6, .int (nI (((k - 25) / 5) % 5))), (5, .int (nI ((k - 25) / 25))), (4, .int (nI k)), (2, .int Mo), (0, .ref (ad 0)), (1, .int i)]) hx hb dX8_rings_256 rfl hl (by decide) rfl (fun ls hl => ?_)
                                            refine lv_iload hx hb dX8_rings_257 (lv_at hl 1 rfl) ?_
                                            refine lv_iload_n hx hb dX8_rings_259 rfl (lv_at hl 7 rfl) ?_
                                            refine lv_icmp_le (tgt := 268) hx hb dX8_rings_260 (by decide) (fun c_68 => ?_) (fun c_68 => ?_)
                                            · skip
                                              refine lv_iload_n hx hb dX8_rings_268 rfl (lv_at hl 7 rfl) ?_
                                              refine lv_istore_n (lv' := [(2, .int Mo), (3, .int B), (9, .int 0), (8, .int 0), (7, .int (nI ((k - 25) % 5))), (6, .int (nI (((k - 25) / 5) % 5))), (5, .int (nI ((k - 25) / 25))), (4, .int (nI k)), (0, .ref (ad 0)), (1, .int i)]) hx hb dX8_rings_269 rfl hl (by decide) rfl (fun ls hl => ?_)
                                              refine lv_iinc (v := (nI (k + 1))) (lv' := [(4, .int (nI (k + 1))), (2, .int Mo), (3, .int B), (9, .int 0), (8, .int 0), (7, .int (nI ((k - 25) % 5))), (6, .int (nI (((k - 25) / 5) % 5))), (5, .int (nI ((k - 25) / 25))), (0, .ref (ad 0)), (1, .int i)]) hx hb dX8_rings_270 hl (k := 7) rfl (mi_add rfl rfl) (by decide) rfl (fun ls hl => ?_)
                                              refine lv_goto (tgt := 24) hx hb dX8_rings_273 (by decide) ?_
                                              exact ih24  (k + 1) B Mo (by omega) (by rw [fmx, ← hfm, show msS σ np nc ld k = 0 from by unfold msS; rw [if_neg (by omega), if_neg (by omega)]]; dsimp only; rw [if_neg (Int32.not_lt.mpr c_67)]) (by omega) ls (lv_sub hl [0, 2, 1, 8, 9] rfl)
                                            · skip
                                              exact absurd c_67 c_68
                                          · skip
                                            refine lv_iload hx hb dX8_rings_250 (lv_at hl 5 rfl) ?_
                                            refine lv_goto (tgt := 256) hx hb dX8_rings_252 (by decide) ?_
                                            refine lv_istore_n (lv' := [(3, .int (nI k)), (9, .int 0), (8, .int 0), (7, .int (nI ((k - 25) % 5))), (6, .int (nI (((k - 25) / 5) % 5))), (5, .int (nI ((k - 25) / 25))), (4, .int (nI k)), (2, .int Mo), (0, .ref (ad 0)), (1, .int i)]) hx hb dX8_rings_256 rfl hl (by decide) rfl (fun ls hl => ?_)
                                            refine lv_iload hx hb dX8_rings_257 (lv_at hl 1 rfl) ?_
                                            refine lv_iload_n hx hb dX8_rings_259 rfl (lv_at hl 7 rfl) ?_
                                            refine lv_icmp_le (tgt := 268) hx hb dX8_rings_260 (by decide) (fun c_69 => ?_) (fun c_69 => ?_)
                                            · skip
                                              exact absurd c_69 c_67
                                            · skip
                                              refine lv_iload hx hb dX8_rings_263 (lv_at hl 1 rfl) ?_
                                              refine lv_goto (tgt := 269) hx hb dX8_rings_265 (by decide) ?_
                                              refine lv_istore_n (lv' := [(2, .int 0), (3, .int (nI k)), (9, .int 0), (8, .int 0), (7, .int (nI ((k - 25) % 5))), (6, .int (nI (((k - 25) / 5) % 5))), (5, .int (nI ((k - 25) / 25))), (4, .int (nI k)), (0, .ref (ad 0)), (1, .int i)]) hx hb dX8_rings_269 rfl hl (by decide) rfl (fun ls hl => ?_)
                                              refine lv_iinc (v := (nI (k + 1))) (lv' := [(4, .int (nI (k + 1))), (2, .int 0), (3, .int (nI k)), (9, .int 0), (8, .int 0), (7, .int (nI ((k - 25) % 5))), (6, .int (nI (((k - 25) / 5) % 5))), (5, .int (nI ((k - 25) / 25))), (0, .ref (ad 0)), (1, .int i)]) hx hb dX8_rings_270 hl (k := 7) rfl (mi_add rfl rfl) (by decide) rfl (fun ls hl => ?_)
                                              refine lv_goto (tgt := 24) hx hb dX8_rings_273 (by decide) ?_
                                              exact ih24  (k + 1) (nI k) 0 (by omega) (by rw [fmx, ← hfm, show msS σ np nc ld k = 0 from by unfold msS; rw [if_neg (by omega), if_neg (by omega)]]; dsimp only; rw [if_pos (Int32.not_le.mp c_67)]) (by omega) ls (lv_sub hl [0, 2, 1, 8, 9] rfl)
                                        · skip
                                          exact absurd c_66 (by decide)
                                      · have nc_65 : 0 < nc ((k - 25) % 5) := mi_nle (hF.m (by omega)) rfl (by omega) (by omega) c_65
                                        refine lv_iconst (v := 1) hx hb dX8_rings_216 (by decide) ?_
                                        refine lv_goto (tgt := 221) hx hb dX8_rings_217 (by decide) ?_
                                        refine lv_istore (lv' := [(8, .int 1), (7, .int (nI ((k - 25) % 5))), (6, .int (nI (((k - 25) / 5) % 5))), (5, .int (nI ((k - 25) / 25))), (4, .int (nI k)), (3, .int B), (2, .int Mo), (0, .ref (ad 0)), (1, .int i)]) hx hb dX8_rings_221 hl (by decide) rfl (fun ls hl => ?_)
                                        refine lv_iload hx hb dX8_rings_223 (lv_at hl 0 rfl) ?_
                                        refine lv_if_eq (tgt := 241) hx hb dX8_rings_225 (by decide) (fun c_70 => ?_) (fun c_70 => ?_)
                                        · skip
                                          exact absurd c_70 (by decide)
                                        · skip
                                          refine lv_aload_n hx hb dX8_rings_228 rfl (lv_at hl 7 rfl) ?_
                                          refine lv_iload hx hb dX8_rings_229 (lv_at hl 3 rfl) ?_
                                          refine lv_iload hx hb dX8_rings_231 (lv_at hl 2 rfl) ?_
                                          refine lv_iload hx hb dX8_rings_233 (lv_at hl 1 rfl) ?_
                                          refine vp_callSi (W.runV (As := [.int (nI ((k - 25) / 25)), .int (nI (((k - 25) / 5) % 5)), .int (nI ((k - 25) % 5))]) (rest := []) ⟨hx, hb, hml, hown, hts⟩ (mt_X8_saved l D dA st hst ad N hA σ (nI ((k - 25) / 25)) (nI (((k - 25) / 5) % 5)) (nI ((k - 25) % 5)) np nc ld hF ((ik_nat rfl (by omega)).mpr (by omega)) ((ik_nat rfl (by omega)).mpr (by omega)) (Or.inr ((ik_nat rfl (by omega)).mpr (by omega))) (by rw [tn_nI (by omega)]; omega) (by rw [tn_nI (by omega)]; omega) (fun _ => by rw [tn_nI (by omega)]; omega)) (cwV 3 hts (lw_V q986 q988 qs33 q55 q989) rfl rfl rfl (by decide +kernel) ⟨Nat.le_of_ble_eq_true rfl, Nat.le_of_ble_eq_true rfl⟩) ⟨mPre.blind, m_recv hE hP 0 (yl_n hA (by decide)) rfl rfl, mPre.at hE hP⟩ rfl rfl hl.1 rfl (lv_room (Nat.le_of_ble_eq_true rfl)) dX8_rings_235 ⟨Nat.le_of_ble_eq_true rfl, Nat.le_of_ble_eq_true rfl⟩) (fun r_71 hr_71 => ?_)
                                          rw [tn_nI (n := (k - 25) / 25) (by omega)] at hr_71
                                          rw [tn_nI (n := ((k - 25) / 5) % 5) (by omega)] at hr_71
                                          subst hr_71
                                          refine lv_goto (tgt := 242) hx hb dX8_rings_238 (by decide) ?_
                                          refine lv_istore (lv' := [(9, .int (svM σ nc ld ((k - 25) / 25) (((k - 25) / 5) % 5) (nI ((k - 25) % 5)))), (8, .int 1), (7, .int (nI ((k - 25) % 5))), (6, .int (nI (((k - 25) / 5) % 5))), (5, .int (nI ((k - 25) / 25))), (4, .int (nI k)), (3, .int B), (2, .int Mo), (0, .ref (ad 0)), (1, .int i)]) hx hb dX8_rings_242 hl (by decide) rfl (fun ls hl => ?_)
                                          refine lv_iload hx hb dX8_rings_244 (lv_at hl 0 rfl) ?_
                                          refine lv_iload_n hx hb dX8_rings_246 rfl (lv_at hl 7 rfl) ?_
                                          refine lv_icmp_le (tgt := 255) hx hb dX8_rings_247 (by decide) (fun c_72 => ?_) (fun c_72 => ?_)
                                          · skip
                                            refine lv_iload_n hx hb dX8_rings_255 rfl (lv_at hl 6 rfl) ?_
                                            refine lv_istore_n (lv' := [(3, .int B), (9, .int (svM σ nc ld ((k - 25) / 25) (((k - 25) / 5) % 5) (nI ((k - 25) % 5)))), (8, .int 1), (7, .int (nI ((k - 25) % 5))), (6, .int (nI (((k - 25) / 5) % 5))), (5, .int (nI ((k - 25) / 25))), (4, .int (nI k)), (2, .int Mo), (0, .ref (ad 0)), (1, .int i)]) hx hb dX8_rings_256 rfl hl (by decide) rfl (fun ls hl => ?_)
                                            refine lv_iload hx hb dX8_rings_257 (lv_at hl 1 rfl) ?_
                                            refine lv_iload_n hx hb dX8_rings_259 rfl (lv_at hl 7 rfl) ?_
                                            refine lv_icmp_le (tgt := 268) hx hb dX8_rings_260 (by decide) (fun c_73 => ?_) (fun c_73 => ?_)
                                            · skip
                                              refine lv_iload_n hx hb dX8_rings_268 rfl (lv_at hl 7 rfl) ?_
                                              refine lv_istore_n (lv' := [(2, .int Mo), (3, .int B), (9, .int (svM σ nc ld ((k - 25) / 25) (((k - 25) / 5) % 5) (nI ((k - 25) % 5)))), (8, .int 1), (7, .int (nI ((k - 25) % 5))), (6, .int (nI (((k - 25) / 5) % 5))), (5, .int (nI ((k - 25) / 25))), (4, .int (nI k)), (0, .ref (ad 0)), (1, .int i)]) hx hb dX8_rings_269 rfl hl (by decide) rfl (fun ls hl => ?_)
                                              refine lv_iinc (v := (nI (k + 1))) (lv' := [(4, .int (nI (k + 1))), (2, .int Mo), (3, .int B), (9, .int (svM σ nc ld ((k - 25) / 25) (((k - 25) / 5) % 5) (nI ((k - 25) % 5)))), (8, .int 1), (7, .int (nI ((k - 25) % 5))), (6, .int (nI (((k - 25) / 5) % 5))), (5, .int (nI ((k - 25) / 25))), (0, .ref (ad 0)), (1, .int i)]) hx hb dX8_rings_270 hl (k := 7) rfl (mi_add rfl rfl) (by decide) rfl (fun ls hl => ?_)
                                              refine lv_goto (tgt := 24) hx hb dX8_rings_273 (by decide) ?_
                                              exact ih24  (k + 1) B Mo (by omega) (by rw [fmx, ← hfm, show msS σ np nc ld k = (svM σ nc ld ((k - 25) / 25) (((k - 25) / 5) % 5) (nI ((k - 25) % 5))) from by unfold msS; rw [if_neg (by omega), if_pos (by omega)]]; dsimp only; rw [if_neg (Int32.not_lt.mpr c_72)]) (by omega) ls (lv_sub hl [0, 2, 1, 8, 9] rfl)
                                            · skip
                                              exact absurd c_72 c_73
                                          · skip
                                            refine lv_iload hx hb dX8_rings_250 (lv_at hl 5 rfl) ?_
                                            refine lv_goto (tgt := 256) hx hb dX8_rings_252 (by decide) ?_
                                            refine lv_istore_n (lv' := [(3, .int (nI k)), (9, .int (svM σ nc ld ((k - 25) / 25) (((k - 25) / 5) % 5) (nI ((k - 25) % 5)))), (8, .int 1), (7, .int (nI ((k - 25) % 5))), (6, .int (nI (((k - 25) / 5) % 5))), (5, .int (nI ((k - 25) / 25))), (4, .int (nI k)), (2, .int Mo), (0, .ref (ad 0)), (1, .int i)]) hx hb dX8_rings_256 rfl hl (by decide) rfl (fun ls hl => ?_)
                                            refine lv_iload hx hb dX8_rings_257 (lv_at hl 1 rfl) ?_
                                            refine lv_iload_n hx hb dX8_rings_259 rfl (lv_at hl 7 rfl) ?_
                                            refine lv_icmp_le (tgt := 268) hx hb dX8_rings_260 (by decide) (fun c_74 => ?_) (fun c_74 => ?_)
                                            · skip
                                              exact absurd c_74 c_72
                                            · skip
                                              refine lv_iload hx hb dX8_rings_263 (lv_at hl 1 rfl) ?_
                                              refine lv_goto (tgt := 269) hx hb dX8_rings_265 (by decide) ?_
                                              refine lv_istore_n (lv' := [(2, .int (svM σ nc ld ((k - 25) / 25) (((k - 25) / 5) % 5) (nI ((k - 25) % 5)))), (3, .int (nI k)), (9, .int (svM σ nc ld ((k - 25) / 25) (((k - 25) / 5) % 5) (nI ((k - 25) % 5)))), (8, .int 1), (7, .int (nI ((k - 25) % 5))), (6, .int (nI (((k - 25) / 5) % 5))), (5, .int (nI ((k - 25) / 25))), (4, .int (nI k)), (0, .ref (ad 0)), (1, .int i)]) hx hb dX8_rings_269 rfl hl (by decide) rfl (fun ls hl => ?_)
                                              refine lv_iinc (v := (nI (k + 1))) (lv' := [(4, .int (nI (k + 1))), (2, .int (svM σ nc ld ((k - 25) / 25) (((k - 25) / 5) % 5) (nI ((k - 25) % 5)))), (3, .int (nI k)), (9, .int (svM σ nc ld ((k - 25) / 25) (((k - 25) / 5) % 5) (nI ((k - 25) % 5)))), (8, .int 1), (7, .int (nI ((k - 25) % 5))), (6, .int (nI (((k - 25) / 5) % 5))), (5, .int (nI ((k - 25) / 25))), (0, .ref (ad 0)), (1, .int i)]) hx hb dX8_rings_270 hl (k := 7) rfl (mi_add rfl rfl) (by decide) rfl (fun ls hl => ?_)
                                              refine lv_goto (tgt := 24) hx hb dX8_rings_273 (by decide) ?_
                                              exact ih24  (k + 1) (nI k) (svM σ nc ld ((k - 25) / 25) (((k - 25) / 5) % 5) (nI ((k - 25) % 5))) (by omega) (by rw [fmx, ← hfm, show msS σ np nc ld k = (svM σ nc ld ((k - 25) / 25) (((k - 25) / 5) % 5) (nI ((k - 25) % 5))) from by unfold msS; rw [if_neg (by omega), if_pos (by omega)]]; dsimp only; rw [if_pos (Int32.not_le.mp c_72)]) (by omega) ls (lv_sub hl [0, 2, 1, 8, 9] rfl)
              · have nc_15 : k < 25 := mi_nle rfl rfl (by omega) (by omega) c_15
                omega
            · have nc_14 : k < 25 := mi_nle rfl rfl (by omega) (by omega) c_14
              omega
          · have nc_13 : k < 25 := mi_nle rfl rfl (by omega) (by omega) c_13
            refine lv_iload hx hb dX8_rings_39 (lv_at hl 0 rfl) ?_
            refine lv_iconst (v := 5) hx hb dX8_rings_41 (by decide) ?_
            refine lv_idiv hx hb dX8_rings_42 (by decide) ?_
            refine lv_goto (tgt := 54) hx hb dX8_rings_43 (by decide) ?_
            refine lv_rwi (mi_div (a := k) (b := 5) rfl rfl (by omega) (by omega) (by omega)) ?_
            refine lv_istore (lv' := [(5, .int (nI (k / 5))), (4, .int (nI k)), (3, .int B), (2, .int Mo), (0, .ref (ad 0)), (1, .int i)]) hx hb dX8_rings_54 hl (by decide) rfl (fun ls hl => ?_)
            refine lv_iload hx hb dX8_rings_56 (lv_at hl 1 rfl) ?_
            refine lv_bipush (v := 25) hx hb dX8_rings_58 (by decide) ?_
            refine lv_icmp_ge (tgt := 70) hx hb dX8_rings_60 (by decide) (fun c_75 => ?_) (fun c_75 => ?_)
            · have nc_75 : 25 ≤ k := mi_le rfl rfl (by omega) (by omega) c_75
              omega
            · have nc_75 : k < 25 := mi_nle rfl rfl (by omega) (by omega) c_75
              refine lv_iload hx hb dX8_rings_63 (lv_at hl 1 rfl) ?_
              refine lv_iconst (v := 5) hx hb dX8_rings_65 (by decide) ?_
              refine lv_irem hx hb dX8_rings_66 (by decide) ?_
              refine lv_goto (tgt := 79) hx hb dX8_rings_67 (by decide) ?_
              refine lv_rwi (mi_rem (a := k) (b := 5) rfl rfl (by omega) (by omega) (by omega)) ?_
              refine lv_istore (lv' := [(6, .int (nI (k % 5))), (5, .int (nI (k / 5))), (4, .int (nI k)), (3, .int B), (2, .int Mo), (0, .ref (ad 0)), (1, .int i)]) hx hb dX8_rings_79 hl (by decide) rfl (fun ls hl => ?_)
              refine lv_iload hx hb dX8_rings_81 (lv_at hl 2 rfl) ?_
              refine lv_bipush (v := 25) hx hb dX8_rings_83 (by decide) ?_
              refine lv_icmp_ge (tgt := 92) hx hb dX8_rings_85 (by decide) (fun c_76 => ?_) (fun c_76 => ?_)
              · have nc_76 : 25 ≤ k := mi_le rfl rfl (by omega) (by omega) c_76
                omega
              · have nc_76 : k < 25 := mi_nle rfl rfl (by omega) (by omega) c_76
                refine lv_iconst (v := (-1)) hx hb dX8_rings_88 (by decide) ?_
                refine lv_goto (tgt := 99) hx hb dX8_rings_89 (by decide) ?_
                refine lv_istore (lv' := [(7, .int (-1)), (6, .int (nI (k % 5))), (5, .int (nI (k / 5))), (4, .int (nI k)), (3, .int B), (2, .int Mo), (0, .ref (ad 0)), (1, .int i)]) hx hb dX8_rings_99 hl (by decide) rfl (fun ls hl => ?_)
                refine lv_iload hx hb dX8_rings_101 (lv_at hl 2 rfl) ?_
                refine lv_aload_n hx hb dX8_rings_103 rfl (lv_at hl 6 rfl) ?_
                refine mg_get hx hb hts in_X8 hown hE hP 0 (yl_n hA (by decide)) rfl rfl 0 rfl (by decide) (hts _ q764) (fun _ h9 => h9) dX8_rings_104 ?_
                refine lv_icmp_ge (tgt := 158) hx hb dX8_rings_107 (by decide) (fun c_77 => ?_) (fun c_77 => ?_)
                · have nc_77 : np ≤ k / 5 := mi_le hF.n rfl (by omega) (by omega) c_77
                  refine lv_iconst (v := 0) hx hb dX8_rings_158 (by decide) ?_
                  refine lv_istore (lv' := [(8, .int 0), (7, .int (-1)), (6, .int (nI (k % 5))), (5, .int (nI (k / 5))), (4, .int (nI k)), (3, .int B), (2, .int Mo), (0, .ref (ad 0)), (1, .int i)]) hx hb dX8_rings_159 hl (by decide) rfl (fun ls hl => ?_)
                  refine lv_iload hx hb dX8_rings_161 (lv_at hl 0 rfl) ?_
                  refine lv_if_eq (tgt := 220) hx hb dX8_rings_163 (by decide) (fun c_78 => ?_) (fun c_78 => ?_)
                  · skip
                    refine lv_iconst (v := 0) hx hb dX8_rings_220 (by decide) ?_
                    refine lv_istore (lv' := [(8, .int 0), (7, .int (-1)), (6, .int (nI (k % 5))), (5, .int (nI (k / 5))), (4, .int (nI k)), (3, .int B), (2, .int Mo), (0, .ref (ad 0)), (1, .int i)]) hx hb dX8_rings_221 hl (by decide) rfl (fun ls hl => ?_)
                    refine lv_iload hx hb dX8_rings_223 (lv_at hl 0 rfl) ?_
                    refine lv_if_eq (tgt := 241) hx hb dX8_rings_225 (by decide) (fun c_79 => ?_) (fun c_79 => ?_)
                    · skip
                      refine lv_iconst (v := 0) hx hb dX8_rings_241 (by decide) ?_
                      refine lv_istore (lv' := [(9, .int 0), (8, .int 0), (7, .int (-1)), (6, .int (nI (k % 5))), (5, .int (nI (k / 5))), (4, .int (nI k)), (3, .int B), (2, .int Mo), (0, .ref (ad 0)), (1, .int i)]) hx hb dX8_rings_242 hl (by decide) rfl (fun ls hl => ?_)
                      refine lv_iload hx hb dX8_rings_244 (lv_at hl 0 rfl) ?_
                      refine lv_iload_n hx hb dX8_rings_246 rfl (lv_at hl 7 rfl) ?_
                      refine lv_icmp_le (tgt := 255) hx hb dX8_rings_247 (by decide) (fun c_80 => ?_) (fun c_80 => ?_)
                      · skip
                        refine lv_iload_n hx hb dX8_rings_255 rfl (lv_at hl 6 rfl) ?_
                        refine lv_istore_n (lv' := [(3, .int B), (9, .int 0), (8, .int 0), (7, .int (-1)), (6, .int (nI (k % 5))), (5, .int (nI (k / 5))), (4, .int (nI k)), (2, .int Mo), (0, .ref (ad 0)), (1, .int i)]) hx hb dX8_rings_256 rfl hl (by decide) rfl (fun ls hl => ?_)
                        refine lv_iload hx hb dX8_rings_257 (lv_at hl 1 rfl) ?_
                        refine lv_iload_n hx hb dX8_rings_259 rfl (lv_at hl 7 rfl) ?_
                        refine lv_icmp_le (tgt := 268) hx hb dX8_rings_260 (by decide) (fun c_81 => ?_) (fun c_81 => ?_)
                        · skip
                          refine lv_iload_n hx hb dX8_rings_268 rfl (lv_at hl 7 rfl) ?_
                          refine lv_istore_n (lv' := [(2, .int Mo), (3, .int B), (9, .int 0), (8, .int 0), (7, .int (-1)), (6, .int (nI (k % 5))), (5, .int (nI (k / 5))), (4, .int (nI k)), (0, .ref (ad 0)), (1, .int i)]) hx hb dX8_rings_269 rfl hl (by decide) rfl (fun ls hl => ?_)
                          refine lv_iinc (v := (nI (k + 1))) (lv' := [(4, .int (nI (k + 1))), (2, .int Mo), (3, .int B), (9, .int 0), (8, .int 0), (7, .int (-1)), (6, .int (nI (k % 5))), (5, .int (nI (k / 5))), (0, .ref (ad 0)), (1, .int i)]) hx hb dX8_rings_270 hl (k := 7) rfl (mi_add rfl rfl) (by decide) rfl (fun ls hl => ?_)
                          refine lv_goto (tgt := 24) hx hb dX8_rings_273 (by decide) ?_
                          exact ih24  (k + 1) B Mo (by omega) (by rw [fmx, ← hfm, show msS σ np nc ld k = 0 from by unfold msS; rw [if_pos (by omega), if_neg (by omega)]]; dsimp only; rw [if_neg (Int32.not_lt.mpr c_80)]) (by omega) ls (lv_sub hl [0, 2, 1, 8, 9] rfl)
                        · skip
                          exact absurd c_80 c_81
                      · skip
                        refine lv_iload hx hb dX8_rings_250 (lv_at hl 5 rfl) ?_
                        refine lv_goto (tgt := 256) hx hb dX8_rings_252 (by decide) ?_
                        refine lv_istore_n (lv' := [(3, .int (nI k)), (9, .int 0), (8, .int 0), (7, .int (-1)), (6, .int (nI (k % 5))), (5, .int (nI (k / 5))), (4, .int (nI k)), (2, .int Mo), (0, .ref (ad 0)), (1, .int i)]) hx hb dX8_rings_256 rfl hl (by decide) rfl (fun ls hl => ?_)
                        refine lv_iload hx hb dX8_rings_257 (lv_at hl 1 rfl) ?_
                        refine lv_iload_n hx hb dX8_rings_259 rfl (lv_at hl 7 rfl) ?_
                        refine lv_icmp_le (tgt := 268) hx hb dX8_rings_260 (by decide) (fun c_82 => ?_) (fun c_82 => ?_)
                        · skip
                          exact absurd c_82 c_80
                        · skip
                          refine lv_iload hx hb dX8_rings_263 (lv_at hl 1 rfl) ?_
                          refine lv_goto (tgt := 269) hx hb dX8_rings_265 (by decide) ?_
                          refine lv_istore_n (lv' := [(2, .int 0), (3, .int (nI k)), (9, .int 0), (8, .int 0), (7, .int (-1)), (6, .int (nI (k % 5))), (5, .int (nI (k / 5))), (4, .int (nI k)), (0, .ref (ad 0)), (1, .int i)]) hx hb dX8_rings_269 rfl hl (by decide) rfl (fun ls hl => ?_)
                          refine lv_iinc (v := (nI (k + 1))) (lv' := [(4, .int (nI (k + 1))), (2, .int 0), (3, .int (nI k)), (9, .int 0), (8, .int 0), (7, .int (-1)), (6, .int (nI (k % 5))), (5, .int (nI (k / 5))), (0, .ref (ad 0)), (1, .int i)]) hx hb dX8_rings_270 hl (k := 7) rfl (mi_add rfl rfl) (by decide) rfl (fun ls hl => ?_)
                          refine lv_goto (tgt := 24) hx hb dX8_rings_273 (by decide) ?_
                          exact ih24  (k + 1) (nI k) 0 (by omega) (by rw [fmx, ← hfm, show msS σ np nc ld k = 0 from by unfold msS; rw [if_pos (by omega), if_neg (by omega)]]; dsimp only; rw [if_pos (Int32.not_le.mp c_80)]) (by omega) ls (lv_sub hl [0, 2, 1, 8, 9] rfl)
                    · skip
                      exact absurd c_79 (by decide)
                  · skip
                    exact absurd c_78 (by decide)
                · have nc_77 : k / 5 < np := mi_nle hF.n rfl (by omega) (by omega) c_77
                  refine lv_iload hx hb dX8_rings_110 (lv_at hl 1 rfl) ?_
                  refine lv_aload_n hx hb dX8_rings_112 rfl (lv_at hl 6 rfl) ?_
                  refine mg_get hx hb hts in_X8 hown hE hP 0 (yl_n hA (by decide)) rfl rfl 0 rfl (by decide) (hts _ q764) (fun _ h9 => h9) dX8_rings_113 ?_
                  refine lv_icmp_ge (tgt := 158) hx hb dX8_rings_116 (by decide) (fun c_83 => ?_) (fun c_83 => ?_)
                  · have nc_83 : np ≤ k % 5 := mi_le hF.n rfl (by omega) (by omega) c_83
                    refine lv_iconst (v := 0) hx hb dX8_rings_158 (by decide) ?_
                    refine lv_istore (lv' := [(8, .int 0), (7, .int (-1)), (6, .int (nI (k % 5))), (5, .int (nI (k / 5))), (4, .int (nI k)), (3, .int B), (2, .int Mo), (0, .ref (ad 0)), (1, .int i)]) hx hb dX8_rings_159 hl (by decide) rfl (fun ls hl => ?_)
                    refine lv_iload hx hb dX8_rings_161 (lv_at hl 0 rfl) ?_
                    refine lv_if_eq (tgt := 220) hx hb dX8_rings_163 (by decide) (fun c_84 => ?_) (fun c_84 => ?_)
                    · skip
                      refine lv_iconst (v := 0) hx hb dX8_rings_220 (by decide) ?_
                      refine lv_istore (lv' := [(8, .int 0), (7, .int (-1)), (6, .int (nI (k % 5))), (5, .int (nI (k / 5))), (4, .int (nI k)), (3, .int B), (2, .int Mo), (0, .ref (ad 0)), (1, .int i)]) hx hb dX8_rings_221 hl (by decide) rfl (fun ls hl => ?_)
                      refine lv_iload hx hb dX8_rings_223 (lv_at hl 0 rfl) ?_
                      refine lv_if_eq (tgt := 241) hx hb dX8_rings_225 (by decide) (fun c_85 => ?_) (fun c_85 => ?_)
                      · skip
                        refine lv_iconst (v := 0) hx hb dX8_rings_241 (by decide) ?_
                        refine lv_istore (lv' := [(9, .int 0), (8, .int 0), (7, .int (-1)), (6, .int (nI (k % 5))), (5, .int (nI (k / 5))), (4, .int (nI k)), (3, .int B), (2, .int Mo), (0, .ref (ad 0)), (1, .int i)]) hx hb dX8_rings_242 hl (by decide) rfl (fun ls hl => ?_)
                        refine lv_iload hx hb dX8_rings_244 (lv_at hl 0 rfl) ?_
                        refine lv_iload_n hx hb dX8_rings_246 rfl (lv_at hl 7 rfl) ?_
                        refine lv_icmp_le (tgt := 255) hx hb dX8_rings_247 (by decide) (fun c_86 => ?_) (fun c_86 => ?_)
                        · skip
                          refine lv_iload_n hx hb dX8_rings_255 rfl (lv_at hl 6 rfl) ?_
                          refine lv_istore_n (lv' := [(3, .int B), (9, .int 0), (8, .int 0), (7, .int (-1)), (6, .int (nI (k % 5))), (5, .int (nI (k / 5))), (4, .int (nI k)), (2, .int Mo), (0, .ref (ad 0)), (1, .int i)]) hx hb dX8_rings_256 rfl hl (by decide) rfl (fun ls hl => ?_)
                          refine lv_iload hx hb dX8_rings_257 (lv_at hl 1 rfl) ?_
                          refine lv_iload_n hx hb dX8_rings_259 rfl (lv_at hl 7 rfl) ?_
                          refine lv_icmp_le (tgt := 268) hx hb dX8_rings_260 (by decide) (fun c_87 => ?_) (fun c_87 => ?_)
                          · skip
                            refine lv_iload_n hx hb dX8_rings_268 rfl (lv_at hl 7 rfl) ?_
                            refine lv_istore_n (lv' := [(2, .int Mo), (3, .int B), (9, .int 0), (8, .int 0), (7, .int (-1)), (6, .int (nI (k % 5))), (5, .int (nI (k / 5))), (4, .int (nI k)), (0, .ref (ad 0)), (1, .int i)]) hx hb dX8_rings_269 rfl hl (by decide) rfl (fun ls hl => ?_)
                            refine lv_iinc (v := (nI (k + 1))) (lv' := [(4, .int (nI (k + 1))), (2, .int Mo), (3, .int B), (9, .int 0), (8, .int 0), (7, .int (-1)), (6, .int (nI (k % 5))), (5, .int (nI (k / 5))), (0, .ref (ad 0)), (1, .int i)]) hx hb dX8_rings_270 hl (k := 7) rfl (mi_add rfl rfl) (by decide) rfl (fun ls hl => ?_)
                            refine lv_goto (tgt := 24) hx hb dX8_rings_273 (by decide) ?_
                            exact ih24  (k + 1) B Mo (by omega) (by rw [fmx, ← hfm, show msS σ np nc ld k = 0 from by unfold msS; rw [if_pos (by omega), if_neg (by omega)]]; dsimp only; rw [if_neg (Int32.not_lt.mpr c_86)]) (by omega) ls (lv_sub hl [0, 2, 1, 8, 9] rfl)
                          · skip
                            exact absurd c_86 c_87
                        · skip
                          refine lv_iload hx hb dX8_rings_250 (lv_at hl 5 rfl) ?_
                          refine lv_goto (tgt := 256) hx hb dX8_rings_252 (by decide) ?_
                          refine lv_istore_n (lv' := [(3, .int (nI k)), (9, .int 0), (8, .int 0), (7, .int (-1)), (6, .int (nI (k % 5))), (5, .int (nI (k / 5))), (4, .int (nI k)), (2, .int Mo), (0, .ref (ad 0)), (1, .int i)]) hx hb dX8_rings_256 rfl hl (by decide) rfl (fun ls hl => ?_)
                          refine lv_iload hx hb dX8_rings_257 (lv_at hl 1 rfl) ?_
                          refine lv_iload_n hx hb dX8_rings_259 rfl (lv_at hl 7 rfl) ?_
                          refine lv_icmp_le (tgt := 268) hx hb dX8_rings_260 (by decide) (fun c_88 => ?_) (fun c_88 => ?_)
                          · skip
                            exact absurd c_88 c_86
                          · skip
                            refine lv_iload hx hb dX8_rings_263 (lv_at hl 1 rfl) ?_
                            refine lv_goto (tgt := 269) hx hb dX8_rings_265 (by decide) ?_
                            refine lv_istore_n (lv' := [(2, .int 0), (3, .int (nI k)), (9, .int 0), (8, .int 0), (7, .int (-1)), (6, .int (nI (k % 5))), (5, .int (nI (k / 5))), (4, .int (nI k)), (0, .ref (ad 0)), (1, .int i)]) hx hb dX8_rings_269 rfl hl (by decide) rfl (fun ls hl => ?_)
                            refine lv_iinc (v := (nI (k + 1))) (lv' := [(4, .int (nI (k + 1))), (2, .int 0), (3, .int (nI k)), (9, .int 0), (8, .int 0), (7, .int (-1)), (6, .int (nI (k % 5))), (5, .int (nI (k / 5))), (0, .ref (ad 0)), (1, .int i)]) hx hb dX8_rings_270 hl (k := 7) rfl (mi_add rfl rfl) (by decide) rfl (fun ls hl => ?_)
                            refine lv_goto (tgt := 24) hx hb dX8_rings_273 (by decide) ?_
                            exact ih24  (k + 1) (nI k) 0 (by omega) (by rw [fmx, ← hfm, show msS σ np nc ld k = 0 from by unfold msS; rw [if_pos (by omega), if_neg (by omega)]]; dsimp only; rw [if_pos (Int32.not_le.mp c_86)]) (by omega) ls (lv_sub hl [0, 2, 1, 8, 9] rfl)
                      · skip
                        exact absurd c_85 (by decide)
                    · skip
                      exact absurd c_84 (by decide)
                  · have nc_83 : k % 5 < np := mi_nle hF.n rfl (by omega) (by omega) c_83
                    refine lv_iload hx hb dX8_rings_119 (lv_at hl 0 rfl) ?_
                    refine lv_aload_n hx hb dX8_rings_121 rfl (lv_at hl 6 rfl) ?_
                    refine mg_get hx hb hts in_X8 hown hE hP 0 (yl_n hA (by decide)) rfl rfl 0 rfl (by decide) (hts _ q764) (fun _ h9 => h9) dX8_rings_122 ?_
                    refine lv_icmp_ge (tgt := 158) hx hb dX8_rings_125 (by decide) (fun c_89 => ?_) (fun c_89 => ?_)
                    · skip
                      exact absurd c_89 (by rw [hF.n, i_le, nI_toInt (by omega), show ((-1 : Int32)).toInt = -1 from rfl]; omega)
                    · skip
                      refine lv_iload hx hb dX8_rings_128 (lv_at hl 2 rfl) ?_
                      refine lv_iload hx hb dX8_rings_130 (lv_at hl 1 rfl) ?_
                      refine lv_icmp_ge (tgt := 158) hx hb dX8_rings_132 (by decide) (fun c_90 => ?_) (fun c_90 => ?_)
                      · have nc_90 : k % 5 ≤ k / 5 := mi_le rfl rfl (by omega) (by omega) c_90
                        refine lv_iconst (v := 0) hx hb dX8_rings_158 (by decide) ?_
                        refine lv_istore (lv' := [(8, .int 0), (7, .int (-1)), (6, .int (nI (k % 5))), (5, .int (nI (k / 5))), (4, .int (nI k)), (3, .int B), (2, .int Mo), (0, .ref (ad 0)), (1, .int i)]) hx hb dX8_rings_159 hl (by decide) rfl (fun ls hl => ?_)
                        refine lv_iload hx hb dX8_rings_161 (lv_at hl 0 rfl) ?_
                        refine lv_if_eq (tgt := 220) hx hb dX8_rings_163 (by decide) (fun c_91 => ?_) (fun c_91 => ?_)
                        · skip
                          refine lv_iconst (v := 0) hx hb dX8_rings_220 (by decide) ?_
                          refine lv_istore (lv' := [(8, .int 0), (7, .int (-1)), (6, .int (nI (k % 5))), (5, .int (nI (k / 5))), (4, .int (nI k)), (3, .int B), (2, .int Mo), (0, .ref (ad 0)), (1, .int i)]) hx hb dX8_rings_221 hl (by decide) rfl (fun ls hl => ?_)
                          refine lv_iload hx hb dX8_rings_223 (lv_at hl 0 rfl) ?_
                          refine lv_if_eq (tgt := 241) hx hb dX8_rings_225 (by decide) (fun c_92 => ?_) (fun c_92 => ?_)
                          · skip
                            refine lv_iconst (v := 0) hx hb dX8_rings_241 (by decide) ?_
                            refine lv_istore (lv' := [(9, .int 0), (8, .int 0), (7, .int (-1)), (6, .int (nI (k % 5))), (5, .int (nI (k / 5))), (4, .int (nI k)), (3, .int B), (2, .int Mo), (0, .ref (ad 0)), (1, .int i)]) hx hb dX8_rings_242 hl (by decide) rfl (fun ls hl => ?_)
                            refine lv_iload hx hb dX8_rings_244 (lv_at hl 0 rfl) ?_
                            refine lv_iload_n hx hb dX8_rings_246 rfl (lv_at hl 7 rfl) ?_
                            refine lv_icmp_le (tgt := 255) hx hb dX8_rings_247 (by decide) (fun c_93 => ?_) (fun c_93 => ?_)
                            · skip
                              refine lv_iload_n hx hb dX8_rings_255 rfl (lv_at hl 6 rfl) ?_
                              refine lv_istore_n (lv' := [(3, .int B), (9, .int 0), (8, .int 0), (7, .int (-1)), (6, .int (nI (k % 5))), (5, .int (nI (k / 5))), (4, .int (nI k)), (2, .int Mo), (0, .ref (ad 0)), (1, .int i)]) hx hb dX8_rings_256 rfl hl (by decide) rfl (fun ls hl => ?_)
                              refine lv_iload hx hb dX8_rings_257 (lv_at hl 1 rfl) ?_
                              refine lv_iload_n hx hb dX8_rings_259 rfl (lv_at hl 7 rfl) ?_
                              refine lv_icmp_le (tgt := 268) hx hb dX8_rings_260 (by decide) (fun c_94 => ?_) (fun c_94 => ?_)
                              · skip
                                refine lv_iload_n hx hb dX8_rings_268 rfl (lv_at hl 7 rfl) ?_
                                refine lv_istore_n (lv' := [(2, .int Mo), (3, .int B), (9, .int 0), (8, .int 0), (7, .int (-1)), (6, .int (nI (k % 5))), (5, .int (nI (k / 5))), (4, .int (nI k)), (0, .ref (ad 0)), (1, .int i)]) hx hb dX8_rings_269 rfl hl (by decide) rfl (fun ls hl => ?_)
                                refine lv_iinc (v := (nI (k + 1))) (lv' := [(4, .int (nI (k + 1))), (2, .int Mo), (3, .int B), (9, .int 0), (8, .int 0), (7, .int (-1)), (6, .int (nI (k % 5))), (5, .int (nI (k / 5))), (0, .ref (ad 0)), (1, .int i)]) hx hb dX8_rings_270 hl (k := 7) rfl (mi_add rfl rfl) (by decide) rfl (fun ls hl => ?_)
                                refine lv_goto (tgt := 24) hx hb dX8_rings_273 (by decide) ?_
                                exact ih24  (k + 1) B Mo (by omega) (by rw [fmx, ← hfm, show msS σ np nc ld k = 0 from by unfold msS; rw [if_pos (by omega), if_neg (by omega)]]; dsimp only; rw [if_neg (Int32.not_lt.mpr c_93)]) (by omega) ls (lv_sub hl [0, 2, 1, 8, 9] rfl)
                              · skip
                                exact absurd c_93 c_94
                            · skip
                              refine lv_iload hx hb dX8_rings_250 (lv_at hl 5 rfl) ?_
                              refine lv_goto (tgt := 256) hx hb dX8_rings_252 (by decide) ?_
                              refine lv_istore_n (lv' := [(3, .int (nI k)), (9, .int 0), (8, .int 0), (7, .int (-1)), (6, .int (nI (k % 5))), (5, .int (nI (k / 5))), (4, .int (nI k)), (2, .int Mo), (0, .ref (ad 0)), (1, .int i)]) hx hb dX8_rings_256 rfl hl (by decide) rfl (fun ls hl => ?_)
                              refine lv_iload hx hb dX8_rings_257 (lv_at hl 1 rfl) ?_
                              refine lv_iload_n hx hb dX8_rings_259 rfl (lv_at hl 7 rfl) ?_
                              refine lv_icmp_le (tgt := 268) hx hb dX8_rings_260 (by decide) (fun c_95 => ?_) (fun c_95 => ?_)
                              · skip
                                exact absurd c_95 c_93
                              · skip
                                refine lv_iload hx hb dX8_rings_263 (lv_at hl 1 rfl) ?_
                                refine lv_goto (tgt := 269) hx hb dX8_rings_265 (by decide) ?_
                                refine lv_istore_n (lv' := [(2, .int 0), (3, .int (nI k)), (9, .int 0), (8, .int 0), (7, .int (-1)), (6, .int (nI (k % 5))), (5, .int (nI (k / 5))), (4, .int (nI k)), (0, .ref (ad 0)), (1, .int i)]) hx hb dX8_rings_269 rfl hl (by decide) rfl (fun ls hl => ?_)
                                refine lv_iinc (v := (nI (k + 1))) (lv' := [(4, .int (nI (k + 1))), (2, .int 0), (3, .int (nI k)), (9, .int 0), (8, .int 0), (7, .int (-1)), (6, .int (nI (k % 5))), (5, .int (nI (k / 5))), (0, .ref (ad 0)), (1, .int i)]) hx hb dX8_rings_270 hl (k := 7) rfl (mi_add rfl rfl) (by decide) rfl (fun ls hl => ?_)
                                refine lv_goto (tgt := 24) hx hb dX8_rings_273 (by decide) ?_
                                exact ih24  (k + 1) (nI k) 0 (by omega) (by rw [fmx, ← hfm, show msS σ np nc ld k = 0 from by unfold msS; rw [if_pos (by omega), if_neg (by omega)]]; dsimp only; rw [if_pos (Int32.not_le.mp c_93)]) (by omega) ls (lv_sub hl [0, 2, 1, 8, 9] rfl)
                          · skip
                            exact absurd c_92 (by decide)
                        · skip
                          exact absurd c_91 (by decide)
                      · have nc_90 : k / 5 < k % 5 := mi_nle rfl rfl (by omega) (by omega) c_90
                        refine lv_iload hx hb dX8_rings_135 (lv_at hl 1 rfl) ?_
                        refine lv_iload hx hb dX8_rings_137 (lv_at hl 0 rfl) ?_
                        refine lv_icmp_eq (tgt := 158) hx hb dX8_rings_139 (by decide) (fun c_96 => ?_) (fun c_96 => ?_)
                        · skip
                          exact absurd (congrArg Int32.toInt c_96) (by rw [nI_toInt (by omega), show ((-1 : Int32)).toInt = -1 from rfl]; omega)
                        · skip
                          refine lv_iload hx hb dX8_rings_142 (lv_at hl 0 rfl) ?_
                          refine lv_if_lt (tgt := 154) hx hb dX8_rings_144 (by decide) (fun c_97 => ?_) (fun c_97 => ?_)
                          · skip
                            refine lv_iconst (v := 1) hx hb dX8_rings_154 (by decide) ?_
                            refine lv_goto (tgt := 159) hx hb dX8_rings_155 (by decide) ?_
                            refine lv_istore (lv' := [(8, .int 1), (7, .int (-1)), (6, .int (nI (k % 5))), (5, .int (nI (k / 5))), (4, .int (nI k)), (3, .int B), (2, .int Mo), (0, .ref (ad 0)), (1, .int i)]) hx hb dX8_rings_159 hl (by decide) rfl (fun ls hl => ?_)
                            refine lv_iload hx hb dX8_rings_161 (lv_at hl 0 rfl) ?_
                            refine lv_if_eq (tgt := 220) hx hb dX8_rings_163 (by decide) (fun c_98 => ?_) (fun c_98 => ?_)
                            · skip
                              exact absurd c_98 (by decide)
                            · skip
                              have e80 := hF.m8 (p := k / 5) (by omega)
                              refine lv_aload_n hx hb dX8_rings_166 rfl (lv_at hl 7 rfl) ?_
                              refine mg_ref hx hb hts in_X8 hown hE hP 0 (yl_n hA (by decide)) rfl rfl 1 rfl (by decide) (hts _ q765) (fun _ h9 => h9) dX8_rings_167 ?_
                              refine lv_bipush (v := 40) hx hb dX8_rings_170 (by decide) ?_
                              refine lv_iload hx hb dX8_rings_172 (lv_at hl 3 rfl) ?_
                              refine lv_imul hx hb dX8_rings_174 ?_
                              refine lv_iconst (v := 3) hx hb dX8_rings_175 (by decide) ?_
                              refine lv_iadd hx hb dX8_rings_176 ?_
                              refine mg_ild hx hb hE hP 1 (yl_n hA (by decide)) rfl ((40 * (k / 5)) + 3) (by omega) (mi_add (mi_mul rfl rfl) rfl) (by decide) dX8_rings_177 ?_
                              refine lv_if_le (tgt := 220) hx hb dX8_rings_178 (by decide) (fun c_99 => ?_) (fun c_99 => ?_)
                              · have nc_99 : nc (k / 5) ≤ 0 := mi_le (hF.m (by omega)) rfl (by omega) (by omega) c_99
                                refine lv_iconst (v := 0) hx hb dX8_rings_220 (by decide) ?_
                                refine lv_istore (lv' := [(8, .int 0), (7, .int (-1)), (6, .int (nI (k % 5))), (5, .int (nI (k / 5))), (4, .int (nI k)), (3, .int B), (2, .int Mo), (0, .ref (ad 0)), (1, .int i)]) hx hb dX8_rings_221 hl (by decide) rfl (fun ls hl => ?_)
                                refine lv_iload hx hb dX8_rings_223 (lv_at hl 0 rfl) ?_
                                refine lv_if_eq (tgt := 241) hx hb dX8_rings_225 (by decide) (fun c_100 => ?_) (fun c_100 => ?_)
                                · skip
                                  refine lv_iconst (v := 0) hx hb dX8_rings_241 (by decide) ?_
                                  refine lv_istore (lv' := [(9, .int 0), (8, .int 0), (7, .int (-1)), (6, .int (nI (k % 5))), (5, .int (nI (k / 5))), (4, .int (nI k)), (3, .int B), (2, .int Mo), (0, .ref (ad 0)), (1, .int i)]) hx hb dX8_rings_242 hl (by decide) rfl (fun ls hl => ?_)
                                  refine lv_iload hx hb dX8_rings_244 (lv_at hl 0 rfl) ?_
                                  refine lv_iload_n hx hb dX8_rings_246 rfl (lv_at hl 7 rfl) ?_
                                  refine lv_icmp_le (tgt := 255) hx hb dX8_rings_247 (by decide) (fun c_101 => ?_) (fun c_101 => ?_)
                                  · skip
                                    refine lv_iload_n hx hb dX8_rings_255 rfl (lv_at hl 6 rfl) ?_
                                    refine lv_istore_n (lv' := [(3, .int B), (9, .int 0), (8, .int 0), (7, .int (-1)), (6, .int (nI (k % 5))), (5, .int (nI (k / 5))), (4, .int (nI k)), (2, .int Mo), (0, .ref (ad 0)), (1, .int i)]) hx hb dX8_rings_256 rfl hl (by decide) rfl (fun ls hl => ?_)
                                    refine lv_iload hx hb dX8_rings_257 (lv_at hl 1 rfl) ?_
                                    refine lv_iload_n hx hb dX8_rings_259 rfl (lv_at hl 7 rfl) ?_
                                    refine lv_icmp_le (tgt := 268) hx hb dX8_rings_260 (by decide) (fun c_102 => ?_) (fun c_102 => ?_)
                                    · skip
                                      refine lv_iload_n hx hb dX8_rings_268 rfl (lv_at hl 7 rfl) ?_
                                      refine lv_istore_n (lv' := [(2, .int Mo), (3, .int B), (9, .int 0), (8, .int 0), (7, .int (-1)), (6, .int (nI (k % 5))), (5, .int (nI (k / 5))), (4, .int (nI k)), (0, .ref (ad 0)), (1, .int i)]) hx hb dX8_rings_269 rfl hl (by decide) rfl (fun ls hl => ?_)
                                      refine lv_iinc (v := (nI (k + 1))) (lv' := [(4, .int (nI (k + 1))), (2, .int Mo), (3, .int B), (9, .int 0), (8, .int 0), (7, .int (-1)), (6, .int (nI (k % 5))), (5, .int (nI (k / 5))), (0, .ref (ad 0)), (1, .int i)]) hx hb dX8_rings_270 hl (k := 7) rfl (mi_add rfl rfl) (by decide) rfl (fun ls hl => ?_)
                                      refine lv_goto (tgt := 24) hx hb dX8_rings_273 (by decide) ?_
                                      exact ih24  (k + 1) B Mo (by omega) (by rw [fmx, ← hfm, show msS σ np nc ld k = 0 from by unfold msS; rw [if_pos (by omega), if_neg (by omega)]]; dsimp only; rw [if_neg (Int32.not_lt.mpr c_101)]) (by omega) ls (lv_sub hl [0, 2, 1, 8, 9] rfl)
                                    · skip
                                      exact absurd c_101 c_102
                                  · skip
                                    refine lv_iload hx hb dX8_rings_250 (lv_at hl 5 rfl) ?_
                                    refine lv_goto (tgt := 256) hx hb dX8_rings_252 (by decide) ?_
                                    refine lv_istore_n (lv' := [(3, .int (nI k)), (9, .int 0), (8, .int 0), (7, .int (-1)), (6, .int (nI (k % 5))), (5, .int (nI (k / 5))), (4, .int (nI k)), (2, .int Mo), (0, .ref (ad 0)), (1, .int i)]) hx hb dX8_rings_256 rfl hl (by decide) rfl (fun ls hl => ?_)
                                    refine lv_iload hx hb dX8_rings_257 (lv_at hl 1 rfl) ?_
                                    refine lv_iload_n hx hb dX8_rings_259 rfl (lv_at hl 7 rfl) ?_
                                    refine lv_icmp_le (tgt := 268) hx hb dX8_rings_260 (by decide) (fun c_103 => ?_) (fun c_103 => ?_)
                                    · skip
                                      exact absurd c_103 c_101
                                    · skip
                                      refine lv_iload hx hb dX8_rings_263 (lv_at hl 1 rfl) ?_
                                      refine lv_goto (tgt := 269) hx hb dX8_rings_265 (by decide) ?_
                                      refine lv_istore_n (lv' := [(2, .int 0), (3, .int (nI k)), (9, .int 0), (8, .int 0), (7, .int (-1)), (6, .int (nI (k % 5))), (5, .int (nI (k / 5))), (4, .int (nI k)), (0, .ref (ad 0)), (1, .int i)]) hx hb dX8_rings_269 rfl hl (by decide) rfl (fun ls hl => ?_)
                                      refine lv_iinc (v := (nI (k + 1))) (lv' := [(4, .int (nI (k + 1))), (2, .int 0), (3, .int (nI k)), (9, .int 0), (8, .int 0), (7, .int (-1)), (6, .int (nI (k % 5))), (5, .int (nI (k / 5))), (0, .ref (ad 0)), (1, .int i)]) hx hb dX8_rings_270 hl (k := 7) rfl (mi_add rfl rfl) (by decide) rfl (fun ls hl => ?_)
                                      refine lv_goto (tgt := 24) hx hb dX8_rings_273 (by decide) ?_
                                      exact ih24  (k + 1) (nI k) 0 (by omega) (by rw [fmx, ← hfm, show msS σ np nc ld k = 0 from by unfold msS; rw [if_pos (by omega), if_neg (by omega)]]; dsimp only; rw [if_pos (Int32.not_le.mp c_101)]) (by omega) ls (lv_sub hl [0, 2, 1, 8, 9] rfl)
                                · skip
                                  exact absurd c_100 (by decide)
                              · have nc_99 : 0 < nc (k / 5) := mi_nle (hF.m (by omega)) rfl (by omega) (by omega) c_99
                                have e81 := hF.m8 (p := k % 5) (by omega)
                                refine lv_aload_n hx hb dX8_rings_181 rfl (lv_at hl 7 rfl) ?_
                                refine mg_ref hx hb hts in_X8 hown hE hP 0 (yl_n hA (by decide)) rfl rfl 1 rfl (by decide) (hts _ q765) (fun _ h9 => h9) dX8_rings_182 ?_
                                refine lv_bipush (v := 40) hx hb dX8_rings_185 (by decide) ?_
                                refine lv_iload hx hb dX8_rings_187 (lv_at hl 2 rfl) ?_
                                refine lv_imul hx hb dX8_rings_189 ?_
                                refine lv_iconst (v := 3) hx hb dX8_rings_190 (by decide) ?_
                                refine lv_iadd hx hb dX8_rings_191 ?_
                                refine mg_ild hx hb hE hP 1 (yl_n hA (by decide)) rfl ((40 * (k % 5)) + 3) (by omega) (mi_add (mi_mul rfl rfl) rfl) (by decide) dX8_rings_192 ?_
                                refine lv_if_le (tgt := 220) hx hb dX8_rings_193 (by decide) (fun c_104 => ?_) (fun c_104 => ?_)
                                · have nc_104 : nc (k % 5) ≤ 0 := mi_le (hF.m (by omega)) rfl (by omega) (by omega) c_104
                                  refine lv_iconst (v := 0) hx hb dX8_rings_220 (by decide) ?_
                                  refine lv_istore (lv' := [(8, .int 0), (7, .int (-1)), (6, .int (nI (k % 5))), (5, .int (nI (k / 5))), (4, .int (nI k)), (3, .int B), (2, .int Mo), (0, .ref (ad 0)), (1, .int i)]) hx hb dX8_rings_221 hl (by decide) rfl (fun ls hl => ?_)
                                  refine lv_iload hx hb dX8_rings_223 (lv_at hl 0 rfl) ?_
                                  refine lv_if_eq (tgt := 241) hx hb dX8_rings_225 (by decide) (fun c_105 => ?_) (fun c_105 => ?_)
                                  · skip
                                    refine lv_iconst (v := 0) hx hb dX8_rings_241 (by decide) ?_
                                    refine lv_istore (lv' := [(9, .int 0), (8, .int 0), (7, .int (-1)), (6, .int (nI (k % 5))), (5, .int (nI (k / 5))), (4, .int (nI k)), (3, .int B), (2, .int Mo), (0, .ref (ad 0)), (1, .int i)]) hx hb dX8_rings_242 hl (by decide) rfl (fun ls hl => ?_)
                                    refine lv_iload hx hb dX8_rings_244 (lv_at hl 0 rfl) ?_
                                    refine lv_iload_n hx hb dX8_rings_246 rfl (lv_at hl 7 rfl) ?_
                                    refine lv_icmp_le (tgt := 255) hx hb dX8_rings_247 (by decide) (fun c_106 => ?_) (fun c_106 => ?_)
                                    · skip
                                      refine lv_iload_n hx hb dX8_rings_255 rfl (lv_at hl 6 rfl) ?_
                                      refine lv_istore_n (lv' := [(3, .int B), (9, .int 0), (8, .int 0), (7, .int (-1)), (6, .int (nI (k % 5))), (5, .int (nI (k / 5))), (4, .int (nI k)), (2, .int Mo), (0, .ref (ad 0)), (1, .int i)]) hx hb dX8_rings_256 rfl hl (by decide) rfl (fun ls hl => ?_)
                                      refine lv_iload hx hb dX8_rings_257 (lv_at hl 1 rfl) ?_
                                      refine lv_iload_n hx hb dX8_rings_259 rfl (lv_at hl 7 rfl) ?_
                                      refine lv_icmp_le (tgt := 268) hx hb dX8_rings_260 (by decide) (fun c_107 => ?_) (fun c_107 => ?_)
                                      · skip
                                        refine lv_iload_n hx hb dX8_rings_268 rfl (lv_at hl 7 rfl) ?_
                                        refine lv_istore_n (lv' := [(2, .int Mo), (3, .int B), (9, .int 0), (8, .int 0), (7, .int (-1)), (6, .int (nI (k % 5))), (5, .int (nI (k / 5))), (4, .int (nI k)), (0, .ref (ad 0)), (1, .int i)]) hx hb dX8_rings_269 rfl hl (by decide) rfl (fun ls hl => ?_)
                                        refine lv_iinc (v := (nI (k + 1))) (lv' := [(4, .int (nI (k + 1))), (2, .int Mo), (3, .int B), (9, .int 0), (8, .int 0), (7, .int (-1)), (6, .int (nI (k % 5))), (5, .int (nI (k / 5))), (0, .ref (ad 0)), (1, .int i)]) hx hb dX8_rings_270 hl (k := 7) rfl (mi_add rfl rfl) (by decide) rfl (fun ls hl => ?_)
                                        refine lv_goto (tgt := 24) hx hb dX8_rings_273 (by decide) ?_
                                        exact ih24  (k + 1) B Mo (by omega) (by rw [fmx, ← hfm, show msS σ np nc ld k = 0 from by unfold msS; rw [if_pos (by omega), if_neg (by omega)]]; dsimp only; rw [if_neg (Int32.not_lt.mpr c_106)]) (by omega) ls (lv_sub hl [0, 2, 1, 8, 9] rfl)
                                      · skip
                                        exact absurd c_106 c_107
                                    · skip
                                      refine lv_iload hx hb dX8_rings_250 (lv_at hl 5 rfl) ?_
                                      refine lv_goto (tgt := 256) hx hb dX8_rings_252 (by decide) ?_
                                      refine lv_istore_n (lv' := [(3, .int (nI k)), (9, .int 0), (8, .int 0), (7, .int (-1)), (6, .int (nI (k % 5))), (5, .int (nI (k / 5))), (4, .int (nI k)), (2, .int Mo), (0, .ref (ad 0)), (1, .int i)]) hx hb dX8_rings_256 rfl hl (by decide) rfl (fun ls hl => ?_)
                                      refine lv_iload hx hb dX8_rings_257 (lv_at hl 1 rfl) ?_
                                      refine lv_iload_n hx hb dX8_rings_259 rfl (lv_at hl 7 rfl) ?_
                                      refine lv_icmp_le (tgt := 268) hx hb dX8_rings_260 (by decide) (fun c_108 => ?_) (fun c_108 => ?_)
                                      · skip
                                        exact absurd c_108 c_106
                                      · skip
                                        refine lv_iload hx hb dX8_rings_263 (lv_at hl 1 rfl) ?_
                                        refine lv_goto (tgt := 269) hx hb dX8_rings_265 (by decide) ?_
                                        refine lv_istore_n (lv' := [(2, .int 0), (3, .int (nI k)), (9, .int 0), (8, .int 0), (7, .int (-1)), (6, .int (nI (k % 5))), (5, .int (nI (k / 5))), (4, .int (nI k)), (0, .ref (ad 0)), (1, .int i)]) hx hb dX8_rings_269 rfl hl (by decide) rfl (fun ls hl => ?_)
                                        refine lv_iinc (v := (nI (k + 1))) (lv' := [(4, .int (nI (k + 1))), (2, .int 0), (3, .int (nI k)), (9, .int 0), (8, .int 0), (7, .int (-1)), (6, .int (nI (k % 5))), (5, .int (nI (k / 5))), (0, .ref (ad 0)), (1, .int i)]) hx hb dX8_rings_270 hl (k := 7) rfl (mi_add rfl rfl) (by decide) rfl (fun ls hl => ?_)
                                        refine lv_goto (tgt := 24) hx hb dX8_rings_273 (by decide) ?_
                                        exact ih24  (k + 1) (nI k) 0 (by omega) (by rw [fmx, ← hfm, show msS σ np nc ld k = 0 from by unfold msS; rw [if_pos (by omega), if_neg (by omega)]]; dsimp only; rw [if_pos (Int32.not_le.mp c_106)]) (by omega) ls (lv_sub hl [0, 2, 1, 8, 9] rfl)
                                  · skip
                                    exact absurd c_105 (by decide)
                                · have nc_104 : 0 < nc (k % 5) := mi_nle (hF.m (by omega)) rfl (by omega) (by omega) c_104
                                  refine lv_iload hx hb dX8_rings_196 (lv_at hl 1 rfl) ?_
                                  refine lv_if_lt (tgt := 216) hx hb dX8_rings_198 (by decide) (fun c_109 => ?_) (fun c_109 => ?_)
                                  · skip
                                    refine lv_iconst (v := 1) hx hb dX8_rings_216 (by decide) ?_
                                    refine lv_goto (tgt := 221) hx hb dX8_rings_217 (by decide) ?_
                                    refine lv_istore (lv' := [(8, .int 1), (7, .int (-1)), (6, .int (nI (k % 5))), (5, .int (nI (k / 5))), (4, .int (nI k)), (3, .int B), (2, .int Mo), (0, .ref (ad 0)), (1, .int i)]) hx hb dX8_rings_221 hl (by decide) rfl (fun ls hl => ?_)
                                    refine lv_iload hx hb dX8_rings_223 (lv_at hl 0 rfl) ?_
                                    refine lv_if_eq (tgt := 241) hx hb dX8_rings_225 (by decide) (fun c_110 => ?_) (fun c_110 => ?_)
                                    · skip
                                      exact absurd c_110 (by decide)
                                    · skip
                                      refine lv_aload_n hx hb dX8_rings_228 rfl (lv_at hl 7 rfl) ?_
                                      refine lv_iload hx hb dX8_rings_229 (lv_at hl 3 rfl) ?_
                                      refine lv_iload hx hb dX8_rings_231 (lv_at hl 2 rfl) ?_
                                      refine lv_iload hx hb dX8_rings_233 (lv_at hl 1 rfl) ?_
                                      refine vp_callSi (W.runV (As := [.int (nI (k / 5)), .int (nI (k % 5)), .int (-1)]) (rest := []) ⟨hx, hb, hml, hown, hts⟩ (mt_X8_saved l D dA st hst ad N hA σ (nI (k / 5)) (nI (k % 5)) (-1) np nc ld hF ((ik_nat rfl (by omega)).mpr (by omega)) ((ik_nat rfl (by omega)).mpr (by omega)) (Or.inl (by decide)) (by rw [tn_nI (by omega)]; omega) (by rw [tn_nI (by omega)]; omega) (fun q => absurd q.1 (by decide))) (cwV 3 hts (lw_V q986 q988 qs33 q55 q989) rfl rfl rfl (by decide +kernel) ⟨Nat.le_of_ble_eq_true rfl, Nat.le_of_ble_eq_true rfl⟩) ⟨mPre.blind, m_recv hE hP 0 (yl_n hA (by decide)) rfl rfl, mPre.at hE hP⟩ rfl rfl hl.1 rfl (lv_room (Nat.le_of_ble_eq_true rfl)) dX8_rings_235 ⟨Nat.le_of_ble_eq_true rfl, Nat.le_of_ble_eq_true rfl⟩) (fun r_111 hr_111 => ?_)
                                      rw [tn_nI (n := k / 5) (by omega)] at hr_111
                                      rw [tn_nI (n := k % 5) (by omega)] at hr_111
                                      subst hr_111
                                      refine lv_goto (tgt := 242) hx hb dX8_rings_238 (by decide) ?_
                                      refine lv_istore (lv' := [(9, .int (svM σ nc ld (k / 5) (k % 5) (-1))), (8, .int 1), (7, .int (-1)), (6, .int (nI (k % 5))), (5, .int (nI (k / 5))), (4, .int (nI k)), (3, .int B), (2, .int Mo), (0, .ref (ad 0)), (1, .int i)]) hx hb dX8_rings_242 hl (by decide) rfl (fun ls hl => ?_)
                                      refine lv_iload hx hb dX8_rings_244 (lv_at hl 0 rfl) ?_
                                      refine lv_iload_n hx hb dX8_rings_246 rfl (lv_at hl 7 rfl) ?_
                                      refine lv_icmp_le (tgt := 255) hx hb dX8_rings_247 (by decide) (fun c_112 => ?_) (fun c_112 => ?_)
                                      · skip
                                        refine lv_iload_n hx hb dX8_rings_255 rfl (lv_at hl 6 rfl) ?_
                                        refine lv_istore_n (lv' := [(3, .int B), (9, .int (svM σ nc ld (k / 5) (k % 5) (-1))), (8, .int 1), (7, .int (-1)), (6, .int (nI (k % 5))), (5, .int (nI (k / 5))), (4, .int (nI k)), (2, .int Mo), (0, .ref (ad 0)), (1, .int i)]) hx hb dX8_rings_256 rfl hl (by decide) rfl (fun ls hl => ?_)
                                        refine lv_iload hx hb dX8_rings_257 (lv_at hl 1 rfl) ?_
                                        refine lv_iload_n hx hb dX8_rings_259 rfl (lv_at hl 7 rfl) ?_
                                        refine lv_icmp_le (tgt := 268) hx hb dX8_rings_260 (by decide) (fun c_113 => ?_) (fun c_113 => ?_)
                                        · skip
                                          refine lv_iload_n hx hb dX8_rings_268 rfl (lv_at hl 7 rfl) ?_
                                          refine lv_istore_n (lv' := [(2, .int Mo), (3, .int B), (9, .int (svM σ nc ld (k / 5) (k % 5) (-1))), (8, .int 1), (7, .int (-1)), (6, .int (nI (k % 5))), (5, .int (nI (k / 5))), (4, .int (nI k)), (0, .ref (ad 0)), (1, .int i)]) hx hb dX8_rings_269 rfl hl (by decide) rfl (fun ls hl => ?_)
                                          refine lv_iinc (v := (nI (k + 1))) (lv' := [(4, .int (nI (k + 1))), (2, .int Mo), (3, .int B), (9, .int (svM σ nc ld (k / 5) (k % 5) (-1))), (8, .int 1), (7, .int (-1)), (6, .int (nI (k % 5))), (5, .int (nI (k / 5))), (0, .ref (ad 0)), (1, .int i)]) hx hb dX8_rings_270 hl (k := 7) rfl (mi_add rfl rfl) (by decide) rfl (fun ls hl => ?_)
                                          refine lv_goto (tgt := 24) hx hb dX8_rings_273 (by decide) ?_
                                          exact ih24  (k + 1) B Mo (by omega) (by rw [fmx, ← hfm, show msS σ np nc ld k = (svM σ nc ld (k / 5) (k % 5) (-1)) from by unfold msS; rw [if_pos (by omega), if_pos (by omega)]]; dsimp only; rw [if_neg (Int32.not_lt.mpr c_112)]) (by omega) ls (lv_sub hl [0, 2, 1, 8, 9] rfl)
                                        · skip
                                          exact absurd c_112 c_113
                                      · skip
                                        refine lv_iload hx hb dX8_rings_250 (lv_at hl 5 rfl) ?_
                                        refine lv_goto (tgt := 256) hx hb dX8_rings_252 (by decide) ?_
                                        refine lv_istore_n (lv' := [(3, .int (nI k)), (9, .int (svM σ nc ld (k / 5) (k % 5) (-1))), (8, .int 1), (7, .int (-1)), (6, .int (nI (k % 5))), (5, .int (nI (k / 5))), (4, .int (nI k)), (2, .int Mo), (0, .ref (ad 0)), (1, .int i)]) hx hb dX8_rings_256 rfl hl (by decide) rfl (fun ls hl => ?_)
                                        refine lv_iload hx hb dX8_rings_257 (lv_at hl 1 rfl) ?_
                                        refine lv_iload_n hx hb dX8_rings_259 rfl (lv_at hl 7 rfl) ?_
                                        refine lv_icmp_le (tgt := 268) hx hb dX8_rings_260 (by decide) (fun c_114 => ?_) (fun c_114 => ?_)
                                        · skip
                                          exact absurd c_114 c_112
                                        · skip
                                          refine lv_iload hx hb dX8_rings_263 (lv_at hl 1 rfl) ?_
                                          refine lv_goto (tgt := 269) hx hb dX8_rings_265 (by decide) ?_
                                          refine lv_istore_n (lv' := [(2, .int (svM σ nc ld (k / 5) (k % 5) (-1))), (3, .int (nI k)), (9, .int (svM σ nc ld (k / 5) (k % 5) (-1))), (8, .int 1), (7, .int (-1)), (6, .int (nI (k % 5))), (5, .int (nI (k / 5))), (4, .int (nI k)), (0, .ref (ad 0)), (1, .int i)]) hx hb dX8_rings_269 rfl hl (by decide) rfl (fun ls hl => ?_)
                                          refine lv_iinc (v := (nI (k + 1))) (lv' := [(4, .int (nI (k + 1))), (2, .int (svM σ nc ld (k / 5) (k % 5) (-1))), (3, .int (nI k)), (9, .int (svM σ nc ld (k / 5) (k % 5) (-1))), (8, .int 1), (7, .int (-1)), (6, .int (nI (k % 5))), (5, .int (nI (k / 5))), (0, .ref (ad 0)), (1, .int i)]) hx hb dX8_rings_270 hl (k := 7) rfl (mi_add rfl rfl) (by decide) rfl (fun ls hl => ?_)
                                          refine lv_goto (tgt := 24) hx hb dX8_rings_273 (by decide) ?_
                                          exact ih24  (k + 1) (nI k) (svM σ nc ld (k / 5) (k % 5) (-1)) (by omega) (by rw [fmx, ← hfm, show msS σ np nc ld k = (svM σ nc ld (k / 5) (k % 5) (-1)) from by unfold msS; rw [if_pos (by omega), if_pos (by omega)]]; dsimp only; rw [if_pos (Int32.not_le.mp c_112)]) (by omega) ls (lv_sub hl [0, 2, 1, 8, 9] rfl)
                                  · skip
                                    exact absurd c_109 (by decide)
                          · skip
                            exact absurd c_97 (by decide)
    exact lp24 (150 - 0 + 1) 0 (-4) 0 (by omega) rfl (by omega) ls (lv_sub hl [0, 1, 2, 3, 4] rfl)
  · have c_2 : ¬ (iv i (-1) 2) := bi_f c_2
    refine lv_iconst (v := (-1)) hx hb dX8_rings_14 (by decide) ?_
    exact W.iret (v := (-1)) hx hb hr (fun t ht hW => ⟨_, rfl, by dsimp only; rw [if_neg c_2], ht⟩) (fun q hq => by cases hq) dX8_rings_15
set_option maxHeartbeats 4000000 in
set_option maxRecDepth 100000 in
theorem mt_X8_under (l : Launch) (D : va_G) (dA : Nat → ClassId) (st : Nat) (hst : st = 1 ∨ st = 2) (ad : Nat → Nat) (N : Nat) (hA : yA ad N) (σ : mMem) (a1 a2 a3 a4 : Int32) (nw : Nat) (hnw : σ 0 9 = nI nw) (hnw8 : nw ≤ 8) : Met l yX8_under (ws_ yX8_under cX8_under 11 (some .int)) ({ frames := 1, cells := 0, slots := 0, locals := 25 }) (va_Pc [.ref (ad 0), .int a1, .int a2, .int a3, .int a4] (mPre D dA (shM st) ad N σ)) (vp_Si (fun r : Int32 => r = (if ik a1 nw then (if iv a2 1 99 then (if iv a3 1 99999 then (if ik a4 2 then (if tn a4 = 0 then (unD (unP σ nw a1 a2 a3) (2 ^ nw - 1) (2 ^ nw - 1)).1 else (unD (unP σ nw a1 a2 a3) (2 ^ nw - 1) (2 ^ nw - 1)).2) else -1) else -1) else -1) else -1))) 0 0 (fun _ => False) := by
  refine Met.ofW (cc := cX8_under) (maxL := 11) (ret := (some .int)) (by decide) rfl ?_
  intro pp ee ss mm args below meth cd s₁ B hml hv
  obtain ⟨rfl, hP, hE⟩ := hv
  have hx := B.exec
  have hb := B.bytes
  have hr := B.returns
  have hts := atoms_spec (ws := ws_ yX8_under cX8_under 11 (some .int)) B.pre
  have hts : ∀ w ∈ lw_all, w.before _ ss = true := fun w h => hts w (List.mem_cons_of_mem _ h)
  have hown : ss.vm.findClass RX8 = some mm.cls := findClass_of_methodNamed B.named
  have hlocks := B.notSynchronized
  have hNN := hA.1
  obtain ⟨pw, hpw⟩ : ∃ z, z = 2 ^ nw := ⟨_, rfl⟩
  have h256 : pw ≤ 256 := by rw [hpw]; exact p256 hnw8
  have hp1 : 1 ≤ pw := by rw [hpw]; exact Nat.one_le_two_pow
  have hl := lv_entry ([.ref (ad 0), .int a1, .int a2, .int a3, .int a4]) (n := 11) (Nat.le_of_ble_eq_true rfl)
  rw [lg_entry_eq]
  generalize (lg_sl ([.ref (ad 0), .int a1, .int a2, .int a3, .int a4]) ++ List.replicate (11 - (lg_sl ([.ref (ad 0), .int a1, .int a2, .int a3, .int a4])).length) Slot.unset).toArray = ls at hl ⊢
  have hl : lv_has ls 11 [(0, .ref (ad 0)), (1, .int a1), (2, .int a2), (3, .int a3), (4, .int a4)] := hl
  refine lv_iload_n hx hb dX8_under_0 rfl (lv_at hl 1 rfl) ?_
  refine lv_i2l (v := a1.toInt64) hx hb dX8_under_1 rfl ?_
  refine lv_lconst (v := 0) hx hb dX8_under_2 (by decide) ?_
  refine lv_aload_n hx hb dX8_under_3 rfl (lv_at hl 0 rfl) ?_
  refine mg_get hx hb hts in_X8 hown hE hP 0 (yl_n hA (by decide)) rfl rfl 9 rfl (by decide) (hts _ q773) (fun _ h9 => h9) dX8_under_4 ?_
  refine lv_iconst (v := 1) hx hb dX8_under_7 (by decide) ?_
  refine lv_isub hx hb dX8_under_8 ?_
  refine lv_i2l (v := (σ 0 9 - 1).toInt64) hx hb dX8_under_9 rfl ?_
  refine vp_callSi (W.runS (As := [.long a1.toInt64, .long 0, .long ((σ 0 9 - 1).toInt64)]) (rest := []) ⟨hx, hb, hml, hown, hts⟩ (mt_X8_in l a1.toInt64 0 ((σ 0 9 - 1).toInt64)) (va_cwS 3 hts (lw_S q854 q855 q55 q856) rfl rfl rfl (by decide +kernel) ⟨Nat.le_of_ble_eq_true rfl, Nat.le_of_ble_eq_true rfl⟩) ⟨fun _ _ _ _ h => h, fun _ _ _ => ⟨rfl, trivial⟩⟩ rfl rfl hl.1 rfl (lv_room (Nat.le_of_ble_eq_true rfl)) dX8_under_10 ⟨Nat.le_of_ble_eq_true rfl, Nat.le_of_ble_eq_true rfl⟩) (fun r_1 hr_1 => ?_)
  subst hr_1
  refine lv_rwi (bi_c (lik_of (n := nw) rfl ((Int32.toInt_toInt64 _).trans (nI_m1 hnw (by omega))))) ?_
  refine lv_if_eq (tgt := 51) hx hb dX8_under_13 (by decide) (fun c_2 => ?_) (fun c_2 => ?_)
  · have c_2 : ¬ (ik a1 nw) := bi_f c_2
    refine lv_iconst (v := (-1)) hx hb dX8_under_51 (by decide) ?_
    exact W.iret (v := (-1)) hx hb hr (fun t ht hW => ⟨_, rfl, by dsimp only; rw [if_neg c_2], ht⟩) (fun q hq => by cases hq) dX8_under_52
  · have c_2 : ik a1 nw := bi_t c_2
    have c_2_lt := ik_lt c_2
    refine lv_iload_n hx hb dX8_under_16 rfl (lv_at hl 2 rfl) ?_
    refine lv_i2l (v := a2.toInt64) hx hb dX8_under_17 rfl ?_
    refine lv_lconst (v := 1) hx hb dX8_under_18 (by decide) ?_
    refine lv_ldc2 hx hb hown (hts _ q857) dX8_under_19 ?_
    refine vp_callSi (W.runS (As := [.long a2.toInt64, .long 1, .long 99]) (rest := []) ⟨hx, hb, hml, hown, hts⟩ (mt_X8_in l a2.toInt64 1 99) (va_cwS 3 hts (lw_S q854 q855 q55 q856) rfl rfl rfl (by decide +kernel) ⟨Nat.le_of_ble_eq_true rfl, Nat.le_of_ble_eq_true rfl⟩) ⟨fun _ _ _ _ h => h, fun _ _ _ => ⟨rfl, trivial⟩⟩ rfl rfl hl.1 rfl (lv_room (Nat.le_of_ble_eq_true rfl)) dX8_under_22 ⟨Nat.le_of_ble_eq_true rfl, Nat.le_of_ble_eq_true rfl⟩) (fun r_3 hr_3 => ?_)
    subst hr_3
    refine lv_rwi (bi_c (liv_of rfl rfl)) ?_
    refine lv_if_eq (tgt := 51) hx hb dX8_under_25 (by decide) (fun c_4 => ?_) (fun c_4 => ?_)
    · have c_4 : ¬ (iv a2 1 99) := bi_f c_4
      refine lv_iconst (v := (-1)) hx hb dX8_under_51 (by decide) ?_
      exact W.iret (v := (-1)) hx hb hr (fun t ht hW => ⟨_, rfl, by dsimp only; rw [if_pos c_2, if_neg c_4], ht⟩) (fun q hq => by cases hq) dX8_under_52
    · have c_4 : iv a2 1 99 := bi_t c_4
      have c_4_tn := iv_tn c_4 (by decide)
      refine lv_iload_n hx hb dX8_under_28 rfl (lv_at hl 3 rfl) ?_
      refine lv_i2l (v := a3.toInt64) hx hb dX8_under_29 rfl ?_
      refine lv_lconst (v := 1) hx hb dX8_under_30 (by decide) ?_
      refine lv_ldc2 hx hb hown (hts _ q1048) dX8_under_31 ?_
      refine vp_callSi (W.runS (As := [.long a3.toInt64, .long 1, .long 99999]) (rest := []) ⟨hx, hb, hml, hown, hts⟩ (mt_X8_in l a3.toInt64 1 99999) (va_cwS 3 hts (lw_S q854 q855 q55 q856) rfl rfl rfl (by decide +kernel) ⟨Nat.le_of_ble_eq_true rfl, Nat.le_of_ble_eq_true rfl⟩) ⟨fun _ _ _ _ h => h, fun _ _ _ => ⟨rfl, trivial⟩⟩ rfl rfl hl.1 rfl (lv_room (Nat.le_of_ble_eq_true rfl)) dX8_under_34 ⟨Nat.le_of_ble_eq_true rfl, Nat.le_of_ble_eq_true rfl⟩) (fun r_5 hr_5 => ?_)
      subst hr_5
      refine lv_rwi (bi_c (liv_of rfl rfl)) ?_
      refine lv_if_eq (tgt := 51) hx hb dX8_under_37 (by decide) (fun c_6 => ?_) (fun c_6 => ?_)
      · have c_6 : ¬ (iv a3 1 99999) := bi_f c_6
        refine lv_iconst (v := (-1)) hx hb dX8_under_51 (by decide) ?_
        exact W.iret (v := (-1)) hx hb hr (fun t ht hW => ⟨_, rfl, by dsimp only; rw [if_pos c_2, if_pos c_4, if_neg c_6], ht⟩) (fun q hq => by cases hq) dX8_under_52
      · have c_6 : iv a3 1 99999 := bi_t c_6
        have c_6_tn := iv_tn c_6 (by decide)
        refine lv_iload hx hb dX8_under_40 (lv_at hl 4 rfl) ?_
        refine lv_i2l (v := a4.toInt64) hx hb dX8_under_42 rfl ?_
        refine lv_lconst (v := 0) hx hb dX8_under_43 (by decide) ?_
        refine lv_lconst (v := 1) hx hb dX8_under_44 (by decide) ?_
        refine vp_callSi (W.runS (As := [.long a4.toInt64, .long 0, .long 1]) (rest := []) ⟨hx, hb, hml, hown, hts⟩ (mt_X8_in l a4.toInt64 0 1) (va_cwS 3 hts (lw_S q854 q855 q55 q856) rfl rfl rfl (by decide +kernel) ⟨Nat.le_of_ble_eq_true rfl, Nat.le_of_ble_eq_true rfl⟩) ⟨fun _ _ _ _ h => h, fun _ _ _ => ⟨rfl, trivial⟩⟩ rfl rfl hl.1 rfl (lv_room (Nat.le_of_ble_eq_true rfl)) dX8_under_45 ⟨Nat.le_of_ble_eq_true rfl, Nat.le_of_ble_eq_true rfl⟩) (fun r_7 hr_7 => ?_)
        subst hr_7
        refine lv_rwi (bi_c (lik_of (n := 2) rfl rfl)) ?_
        refine lv_if_ne (tgt := 53) hx hb dX8_under_48 (by decide) (fun c_8 => ?_) (fun c_8 => ?_)
        · have c_8 : ik a4 2 := bi_t c_8
          have c_8_lt := ik_lt c_8
          refine lv_iconst (v := 0) hx hb dX8_under_53 (by decide) ?_
          refine lv_istore (lv' := [(5, .int 0), (0, .ref (ad 0)), (1, .int a1), (2, .int a2), (3, .int a3), (4, .int a4)]) hx hb dX8_under_54 hl (by decide) rfl (fun ls hl => ?_)
          refine lv_bipush (v := (-4)) hx hb dX8_under_56 (by decide) ?_
          refine lv_istore (lv' := [(6, .int (-4)), (5, .int 0), (0, .ref (ad 0)), (1, .int a1), (2, .int a2), (3, .int a3), (4, .int a4)]) hx hb dX8_under_58 hl (by decide) rfl (fun ls hl => ?_)
          refine lv_iconst (v := 1) hx hb dX8_under_60 (by decide) ?_
          refine lv_aload_n hx hb dX8_under_61 rfl (lv_at hl 2 rfl) ?_
          refine mg_get hx hb hts in_X8 hown hE hP 0 (yl_n hA (by decide)) rfl rfl 9 rfl (by decide) (hts _ q773) (fun _ h9 => h9) dX8_under_62 ?_
          refine lv_ishl hx hb dX8_under_65 ?_
          refine lv_iconst (v := 1) hx hb dX8_under_66 (by decide) ?_
          refine lv_isub hx hb dX8_under_67 ?_
          refine lv_rwi (mi_sub (a := pw) (b := 1) ((sh1 hnw hnw8).trans (by rw [hpw])) rfl (by omega)) ?_
          refine lv_istore (lv' := [(7, .int (nI (pw - 1))), (6, .int (-4)), (5, .int 0), (0, .ref (ad 0)), (1, .int a1), (2, .int a2), (3, .int a3), (4, .int a4)]) hx hb dX8_under_68 hl (by decide) rfl (fun ls hl => ?_)
          have lp70 : ∀ (fu : Nat) (j : Nat) (nn : Int32) (fi : Int32) (_ : j + 1 ≤ pw) (_ : (nn, fi) = unD (unP σ nw a1 a2 a3) (pw - 1) j) (_ : pw - j < fu) (ls : Array Slot) (_ : lv_has ls 11 [(7, .int (nI (pw - 1 - j))), (6, .int fi), (5, .int nn), (0, .ref (ad 0)), (1, .int a1), (2, .int a2), (3, .int a3), (4, .int a4)]), W pp l ee (headSpec (ws_ yX8_under cX8_under 11 (some .int)) ({ frames := 1, cells := 0, slots := 0, locals := 25 })).room ss mm ([.ref (ad 0), .int a1, .int a2, .int a3, .int a4] : List Value).toArray below meth cd ss.heap [] 0 0 (MQ below (vp_Si (fun r : Int32 => r = (if ik a1 nw then (if iv a2 1 99 then (if iv a3 1 99999 then (if ik a4 2 then (if tn a4 = 0 then (unD (unP σ nw a1 a2 a3) (2 ^ nw - 1) (2 ^ nw - 1)).1 else (unD (unP σ nw a1 a2 a3) (2 ^ nw - 1) (2 ^ nw - 1)).2) else -1) else -1) else -1) else -1))) ([.ref (ad 0), .int a1, .int a2, .int a3, .int a4] : List Value).toArray ss 0 0 (fun _ => False)) (F0 mm 70 ls []) := by
            intro fu
            induction fu with
            | zero => intro j nn fi hj hun hfu; exact absurd hfu (Nat.not_lt_zero _)
            | succ fu ih70 =>
              intro j nn fi hj hun hfu ls hl
              refine lv_iload hx hb dX8_under_70 (lv_at hl 0 rfl) ?_
              refine lv_if_le (tgt := 203) hx hb dX8_under_72 (by decide) (fun c_9 => ?_) (fun c_9 => ?_)
              · have nc_9 : pw - 1 - j ≤ 0 := mi_le rfl rfl (by omega) (by omega) c_9
                refine lv_iload hx hb dX8_under_203 (lv_at hl 7 rfl) ?_
                refine lv_if_ne (tgt := 213) hx hb dX8_under_205 (by decide) (fun c_10 => ?_) (fun c_10 => ?_)
                · have nc_10 : tn a4 ≠ 0 := mi_ne (ik_eq c_8) rfl (by omega) (by omega) c_10
                  refine lv_iload hx hb dX8_under_213 (lv_at hl 1 rfl) ?_
                  exact W.iret (v := fi) hx hb hr (fun t ht hW => ⟨_, rfl, by dsimp only; rw [if_pos c_2, if_pos c_4, if_pos c_6, if_pos c_8, ← hpw, show pw - 1 = j by omega]; rw [show pw - 1 = j by omega] at hun; rw [← hun, if_neg nc_10], ht⟩) (fun q hq => by cases hq) dX8_under_215
                · have nc_10 : tn a4 = 0 := mi_eq (ik_eq c_8) rfl (by omega) (by omega) c_10
                  refine lv_iload hx hb dX8_under_208 (lv_at hl 2 rfl) ?_
                  refine lv_goto (tgt := 215) hx hb dX8_under_210 (by decide) ?_
                  exact W.iret (v := nn) hx hb hr (fun t ht hW => ⟨_, rfl, by dsimp only; rw [if_pos c_2, if_pos c_4, if_pos c_6, if_pos c_8, ← hpw, show pw - 1 = j by omega]; rw [show pw - 1 = j by omega] at hun; rw [← hun, if_pos nc_10], ht⟩) (fun q hq => by cases hq) dX8_under_215
              · have nc_9 : 0 < pw - 1 - j := mi_nle rfl rfl (by omega) (by omega) c_9
                refine lv_iconst (v := 0) hx hb dX8_under_75 (by decide) ?_
                refine lv_istore (lv' := [(8, .int 0), (7, .int (nI (pw - 1 - j))), (6, .int fi), (5, .int nn), (0, .ref (ad 0)), (1, .int a1), (2, .int a2), (3, .int a3), (4, .int a4)]) hx hb dX8_under_76 hl (by decide) rfl (fun ls hl => ?_)
                refine lv_iconst (v := 0) hx hb dX8_under_78 (by decide) ?_
                refine lv_istore (lv' := [(9, .int 0), (8, .int 0), (7, .int (nI (pw - 1 - j))), (6, .int fi), (5, .int nn), (0, .ref (ad 0)), (1, .int a1), (2, .int a2), (3, .int a3), (4, .int a4)]) hx hb dX8_under_79 hl (by decide) rfl (fun ls hl => ?_)
                refine lv_iconst (v := 0) hx hb dX8_under_81 (by decide) ?_
                refine lv_istore (lv' := [(10, .int 0), (9, .int 0), (8, .int 0), (7, .int (nI (pw - 1 - j))), (6, .int fi), (5, .int nn), (0, .ref (ad 0)), (1, .int a1), (2, .int a2), (3, .int a3), (4, .int a4)]) hx hb dX8_under_82 hl (by decide) rfl (fun ls hl => ?_)
                have lp84 : ∀ (fu : Nat) (k : Nat) (S : Int32) (U : Int32) (_ : k ≤ nw) (_ : S = umM (σ 6) (pw - 1 - j) k) (_ : U = umM (σ 7) (pw - 1 - j) k) (_ : nw - k < fu) (ls : Array Slot) (_ : lv_has ls 11 [(10, .int (nI k)), (9, .int U), (8, .int S), (7, .int (nI (pw - 1 - j))), (6, .int fi), (5, .int nn), (0, .ref (ad 0)), (1, .int a1), (2, .int a2), (3, .int a3), (4, .int a4)]), W pp l ee (headSpec (ws_ yX8_under cX8_under 11 (some .int)) ({ frames := 1, cells := 0, slots := 0, locals := 25 })).room ss mm ([.ref (ad 0), .int a1, .int a2, .int a3, .int a4] : List Value).toArray below meth cd ss.heap [] 0 0 (MQ below (vp_Si (fun r : Int32 => r = (if ik a1 nw then (if iv a2 1 99 then (if iv a3 1 99999 then (if ik a4 2 then (if tn a4 = 0 then (unD (unP σ nw a1 a2 a3) (2 ^ nw - 1) (2 ^ nw - 1)).1 else (unD (unP σ nw a1 a2 a3) (2 ^ nw - 1) (2 ^ nw - 1)).2) else -1) else -1) else -1) else -1))) ([.ref (ad 0), .int a1, .int a2, .int a3, .int a4] : List Value).toArray ss 0 0 (fun _ => False)) (F0 mm 84 ls []) := by
                  intro fu
                  induction fu with
                  | zero => intro k S U hk hSk hUk hfu; exact absurd hfu (Nat.not_lt_zero _)
                  | succ fu ih84 =>
                    intro k S U hk hSk hUk hfu ls hl
                    refine lv_iload hx hb dX8_under_84 (lv_at hl 0 rfl) ?_
                    refine lv_aload_n hx hb dX8_under_86 rfl (lv_at hl 6 rfl) ?_
                    refine mg_get hx hb hts in_X8 hown hE hP 0 (yl_n hA (by decide)) rfl rfl 9 rfl (by decide) (hts _ q773) (fun _ h9 => h9) dX8_under_87 ?_
                    refine lv_icmp_ge (tgt := 139) hx hb dX8_under_90 (by decide) (fun c_11 => ?_) (fun c_11 => ?_)
                    · have nc_11 : nw ≤ k := mi_le hnw rfl (by omega) (by omega) c_11
                      have hkn : k = nw := by omega
                      refine lv_iload hx hb dX8_under_139 (lv_at hl 3 rfl) ?_
                      refine lv_iload_n hx hb dX8_under_141 rfl (lv_at hl 7 rfl) ?_
                      refine lv_ishr hx hb dX8_under_142 ?_
                      refine lv_iconst (v := 1) hx hb dX8_under_143 (by decide) ?_
                      refine lv_iand hx hb dX8_under_144 ?_
                      refine lv_iconst (v := 1) hx hb dX8_under_145 (by decide) ?_
                      refine lv_icmp_ne (tgt := 165) hx hb dX8_under_146 (by decide) (fun c_12 => ?_) (fun c_12 => ?_)
                      · skip
                        refine lv_iconst (v := 0) hx hb dX8_under_165 (by decide) ?_
                        refine lv_istore (lv' := [(10, .int 0), (9, .int U), (8, .int S), (7, .int (nI (pw - 1 - j))), (6, .int fi), (5, .int nn), (0, .ref (ad 0)), (1, .int a1), (2, .int a2), (3, .int a3), (4, .int a4)]) hx hb dX8_under_166 hl (by decide) rfl (fun ls hl => ?_)
                        refine lv_iload hx hb dX8_under_168 (lv_at hl 5 rfl) ?_
                        refine lv_iload hx hb dX8_under_170 (lv_at hl 0 rfl) ?_
                        refine lv_if_eq (tgt := 179) hx hb dX8_under_172 (by decide) (fun c_13 => ?_) (fun c_13 => ?_)
                        · skip
                          refine lv_iconst (v := 0) hx hb dX8_under_179 (by decide) ?_
                          refine lv_iadd hx hb dX8_under_180 ?_
                          refine lv_istore (lv' := [(5, .int (nn + 0)), (10, .int 0), (9, .int U), (8, .int S), (7, .int (nI (pw - 1 - j))), (6, .int fi), (0, .ref (ad 0)), (1, .int a1), (2, .int a2), (3, .int a3), (4, .int a4)]) hx hb dX8_under_181 hl (by decide) rfl (fun ls hl => ?_)
                          refine lv_iload hx hb dX8_under_183 (lv_at hl 1 rfl) ?_
                          refine lv_if_eq (tgt := 193) hx hb dX8_under_185 (by decide) (fun c_14 => ?_) (fun c_14 => ?_)
                          · skip
                            refine lv_iload hx hb dX8_under_193 (lv_at hl 5 rfl) ?_
                            refine lv_istore (lv' := [(6, .int fi), (5, .int (nn + 0)), (10, .int 0), (9, .int U), (8, .int S), (7, .int (nI (pw - 1 - j))), (0, .ref (ad 0)), (1, .int a1), (2, .int a2), (3, .int a3), (4, .int a4)]) hx hb dX8_under_195 hl (by decide) rfl (fun ls hl => ?_)
                            refine lv_iinc (v := (nI (pw - 1 - (j + 1)))) (lv' := [(7, .int (nI (pw - 1 - (j + 1)))), (6, .int fi), (5, .int (nn + 0)), (10, .int 0), (9, .int U), (8, .int S), (0, .ref (ad 0)), (1, .int a1), (2, .int a2), (3, .int a3), (4, .int a4)]) hx hb dX8_under_197 hl (k := 5) rfl (dec0 (by omega)) (by decide) rfl (fun ls hl => ?_)
                            refine lv_goto (tgt := 70) hx hb dX8_under_200 (by decide) ?_
                            exact ih70  (j + 1) (nn + 0) fi (by omega) (by rw [unD, ← hun]; dsimp only; rw [if_neg (fun q => c_12 q.1)] <;> simp) (by omega) ls (lv_sub hl [0, 1, 2, 6, 7, 8, 9, 10] rfl)
                          · skip
                            exact absurd c_14 (by decide)
                        · skip
                          exact absurd c_13 (by decide)
                      · skip
                        refine lv_iload hx hb dX8_under_149 (lv_at hl 2 rfl) ?_
                        refine lv_iload_n hx hb dX8_under_151 rfl (lv_at hl 9 rfl) ?_
                        refine lv_icmp_ne (tgt := 165) hx hb dX8_under_152 (by decide) (fun c_15 => ?_) (fun c_15 => ?_)
                        · skip
                          refine lv_iconst (v := 0) hx hb dX8_under_165 (by decide) ?_
                          refine lv_istore (lv' := [(10, .int 0), (9, .int U), (8, .int S), (7, .int (nI (pw - 1 - j))), (6, .int fi), (5, .int nn), (0, .ref (ad 0)), (1, .int a1), (2, .int a2), (3, .int a3), (4, .int a4)]) hx hb dX8_under_166 hl (by decide) rfl (fun ls hl => ?_)
                          refine lv_iload hx hb dX8_under_168 (lv_at hl 5 rfl) ?_
                          refine lv_iload hx hb dX8_under_170 (lv_at hl 0 rfl) ?_
                          refine lv_if_eq (tgt := 179) hx hb dX8_under_172 (by decide) (fun c_16 => ?_) (fun c_16 => ?_)
                          · skip
                            refine lv_iconst (v := 0) hx hb dX8_under_179 (by decide) ?_
                            refine lv_iadd hx hb dX8_under_180 ?_
                            refine lv_istore (lv' := [(5, .int (nn + 0)), (10, .int 0), (9, .int U), (8, .int S), (7, .int (nI (pw - 1 - j))), (6, .int fi), (0, .ref (ad 0)), (1, .int a1), (2, .int a2), (3, .int a3), (4, .int a4)]) hx hb dX8_under_181 hl (by decide) rfl (fun ls hl => ?_)
                            refine lv_iload hx hb dX8_under_183 (lv_at hl 1 rfl) ?_
                            refine lv_if_eq (tgt := 193) hx hb dX8_under_185 (by decide) (fun c_17 => ?_) (fun c_17 => ?_)
                            · skip
                              refine lv_iload hx hb dX8_under_193 (lv_at hl 5 rfl) ?_
                              refine lv_istore (lv' := [(6, .int fi), (5, .int (nn + 0)), (10, .int 0), (9, .int U), (8, .int S), (7, .int (nI (pw - 1 - j))), (0, .ref (ad 0)), (1, .int a1), (2, .int a2), (3, .int a3), (4, .int a4)]) hx hb dX8_under_195 hl (by decide) rfl (fun ls hl => ?_)
                              refine lv_iinc (v := (nI (pw - 1 - (j + 1)))) (lv' := [(7, .int (nI (pw - 1 - (j + 1)))), (6, .int fi), (5, .int (nn + 0)), (10, .int 0), (9, .int U), (8, .int S), (0, .ref (ad 0)), (1, .int a1), (2, .int a2), (3, .int a3), (4, .int a4)]) hx hb dX8_under_197 hl (k := 5) rfl (dec0 (by omega)) (by decide) rfl (fun ls hl => ?_)
                              refine lv_goto (tgt := 70) hx hb dX8_under_200 (by decide) ?_
                              exact ih70  (j + 1) (nn + 0) fi (by omega) (by rw [unD, ← hun]; dsimp only; rw [if_neg (fun q => c_15 (by rw [hSk, hkn]; exact q.2.1))] <;> simp) (by omega) ls (lv_sub hl [0, 1, 2, 6, 7, 8, 9, 10] rfl)
                            · skip
                              exact absurd c_17 (by decide)
                          · skip
                            exact absurd c_16 (by decide)
                        · skip
                          refine lv_iload hx hb dX8_under_155 (lv_at hl 1 rfl) ?_
                          refine lv_iload_n hx hb dX8_under_157 rfl (lv_at hl 8 rfl) ?_
                          refine lv_icmp_ne (tgt := 165) hx hb dX8_under_158 (by decide) (fun c_18 => ?_) (fun c_18 => ?_)
                          · skip
                            refine lv_iconst (v := 0) hx hb dX8_under_165 (by decide) ?_
                            refine lv_istore (lv' := [(10, .int 0), (9, .int U), (8, .int S), (7, .int (nI (pw - 1 - j))), (6, .int fi), (5, .int nn), (0, .ref (ad 0)), (1, .int a1), (2, .int a2), (3, .int a3), (4, .int a4)]) hx hb dX8_under_166 hl (by decide) rfl (fun ls hl => ?_)
                            refine lv_iload hx hb dX8_under_168 (lv_at hl 5 rfl) ?_
                            refine lv_iload hx hb dX8_under_170 (lv_at hl 0 rfl) ?_
                            refine lv_if_eq (tgt := 179) hx hb dX8_under_172 (by decide) (fun c_19 => ?_) (fun c_19 => ?_)
                            · skip
                              refine lv_iconst (v := 0) hx hb dX8_under_179 (by decide) ?_
                              refine lv_iadd hx hb dX8_under_180 ?_
                              refine lv_istore (lv' := [(5, .int (nn + 0)), (10, .int 0), (9, .int U), (8, .int S), (7, .int (nI (pw - 1 - j))), (6, .int fi), (0, .ref (ad 0)), (1, .int a1), (2, .int a2), (3, .int a3), (4, .int a4)]) hx hb dX8_under_181 hl (by decide) rfl (fun ls hl => ?_)
                              refine lv_iload hx hb dX8_under_183 (lv_at hl 1 rfl) ?_
                              refine lv_if_eq (tgt := 193) hx hb dX8_under_185 (by decide) (fun c_20 => ?_) (fun c_20 => ?_)
                              · skip
                                refine lv_iload hx hb dX8_under_193 (lv_at hl 5 rfl) ?_
                                refine lv_istore (lv' := [(6, .int fi), (5, .int (nn + 0)), (10, .int 0), (9, .int U), (8, .int S), (7, .int (nI (pw - 1 - j))), (0, .ref (ad 0)), (1, .int a1), (2, .int a2), (3, .int a3), (4, .int a4)]) hx hb dX8_under_195 hl (by decide) rfl (fun ls hl => ?_)
                                refine lv_iinc (v := (nI (pw - 1 - (j + 1)))) (lv' := [(7, .int (nI (pw - 1 - (j + 1)))), (6, .int fi), (5, .int (nn + 0)), (10, .int 0), (9, .int U), (8, .int S), (0, .ref (ad 0)), (1, .int a1), (2, .int a2), (3, .int a3), (4, .int a4)]) hx hb dX8_under_197 hl (k := 5) rfl (dec0 (by omega)) (by decide) rfl (fun ls hl => ?_)
                                refine lv_goto (tgt := 70) hx hb dX8_under_200 (by decide) ?_
                                exact ih70  (j + 1) (nn + 0) fi (by omega) (by rw [unD, ← hun]; dsimp only; rw [if_neg (fun q => c_18 (by rw [hUk, hkn]; exact q.2.2))] <;> simp) (by omega) ls (lv_sub hl [0, 1, 2, 6, 7, 8, 9, 10] rfl)
                              · skip
                                exact absurd c_20 (by decide)
                            · skip
                              exact absurd c_19 (by decide)
                          · skip
                            refine lv_iconst (v := 1) hx hb dX8_under_161 (by decide) ?_
                            refine lv_goto (tgt := 166) hx hb dX8_under_162 (by decide) ?_
                            refine lv_istore (lv' := [(10, .int 1), (9, .int U), (8, .int S), (7, .int (nI (pw - 1 - j))), (6, .int fi), (5, .int nn), (0, .ref (ad 0)), (1, .int a1), (2, .int a2), (3, .int a3), (4, .int a4)]) hx hb dX8_under_166 hl (by decide) rfl (fun ls hl => ?_)
                            refine lv_iload hx hb dX8_under_168 (lv_at hl 5 rfl) ?_
                            refine lv_iload hx hb dX8_under_170 (lv_at hl 0 rfl) ?_
                            refine lv_if_eq (tgt := 179) hx hb dX8_under_172 (by decide) (fun c_21 => ?_) (fun c_21 => ?_)
                            · skip
                              exact absurd c_21 (by decide)
                            · skip
                              refine lv_iconst (v := 1) hx hb dX8_under_175 (by decide) ?_
                              refine lv_goto (tgt := 180) hx hb dX8_under_176 (by decide) ?_
                              refine lv_iadd hx hb dX8_under_180 ?_
                              refine lv_istore (lv' := [(5, .int (nn + 1)), (10, .int 1), (9, .int U), (8, .int S), (7, .int (nI (pw - 1 - j))), (6, .int fi), (0, .ref (ad 0)), (1, .int a1), (2, .int a2), (3, .int a3), (4, .int a4)]) hx hb dX8_under_181 hl (by decide) rfl (fun ls hl => ?_)
                              refine lv_iload hx hb dX8_under_183 (lv_at hl 1 rfl) ?_
                              refine lv_if_eq (tgt := 193) hx hb dX8_under_185 (by decide) (fun c_22 => ?_) (fun c_22 => ?_)
                              · skip
                                exact absurd c_22 (by decide)
                              · skip
                                refine lv_iload hx hb dX8_under_188 (lv_at hl 4 rfl) ?_
                                refine lv_goto (tgt := 195) hx hb dX8_under_190 (by decide) ?_
                                refine lv_istore (lv' := [(6, .int (nI (pw - 1 - j))), (5, .int (nn + 1)), (10, .int 1), (9, .int U), (8, .int S), (7, .int (nI (pw - 1 - j))), (0, .ref (ad 0)), (1, .int a1), (2, .int a2), (3, .int a3), (4, .int a4)]) hx hb dX8_under_195 hl (by decide) rfl (fun ls hl => ?_)
                                refine lv_iinc (v := (nI (pw - 1 - (j + 1)))) (lv' := [(7, .int (nI (pw - 1 - (j + 1)))), (6, .int (nI (pw - 1 - j))), (5, .int (nn + 1)), (10, .int 1), (9, .int U), (8, .int S), (0, .ref (ad 0)), (1, .int a1), (2, .int a2), (3, .int a3), (4, .int a4)]) hx hb dX8_under_197 hl (k := 5) rfl (dec0 (by omega)) (by decide) rfl (fun ls hl => ?_)
                                refine lv_goto (tgt := 70) hx hb dX8_under_200 (by decide) ?_
                                exact ih70  (j + 1) (nn + 1) (nI (pw - 1 - j)) (by omega) (by rw [unD, ← hun]; dsimp only; rw [hSk, hkn] at c_15; rw [hUk, hkn] at c_18; rw [if_pos ⟨c_12, c_15, c_18⟩]) (by omega) ls (lv_sub hl [0, 1, 2, 6, 7, 8, 9, 10] rfl)
                    · have nc_11 : k < nw := mi_nle hnw rfl (by omega) (by omega) c_11
                      refine lv_iload hx hb dX8_under_93 (lv_at hl 2 rfl) ?_
                      refine lv_iload hx hb dX8_under_95 (lv_at hl 3 rfl) ?_
                      refine lv_iload hx hb dX8_under_97 (lv_at hl 0 rfl) ?_
                      refine lv_ishr hx hb dX8_under_99 ?_
                      refine lv_iconst (v := 1) hx hb dX8_under_100 (by decide) ?_
                      refine lv_iand hx hb dX8_under_101 ?_
                      refine lv_aload_n hx hb dX8_under_102 rfl (lv_at hl 6 rfl) ?_
                      refine mg_ref hx hb hts in_X8 hown hE hP 0 (yl_n hA (by decide)) rfl rfl 10 rfl (by decide) (hts _ q774) (fun _ h9 => h9) dX8_under_103 ?_
                      refine lv_iload hx hb dX8_under_106 (lv_at hl 0 rfl) ?_
                      refine mg_ild hx hb hE hP 6 (yl_n hA (by decide)) rfl k (by omega) rfl (by decide) dX8_under_108 ?_
                      refine lv_imul hx hb dX8_under_109 ?_
                      refine lv_iadd hx hb dX8_under_110 ?_
                      refine lv_istore (lv' := [(8, .int (S + ((((nI (pw - 1 - j)) >>> ((nI k) &&& 31)) &&& 1) * σ 6 k))), (10, .int (nI k)), (9, .int U), (7, .int (nI (pw - 1 - j))), (6, .int fi), (5, .int nn), (0, .ref (ad 0)), (1, .int a1), (2, .int a2), (3, .int a3), (4, .int a4)]) hx hb dX8_under_111 hl (by decide) rfl (fun ls hl => ?_)
                      refine lv_iload hx hb dX8_under_113 (lv_at hl 2 rfl) ?_
                      refine lv_iload hx hb dX8_under_115 (lv_at hl 3 rfl) ?_
                      refine lv_iload hx hb dX8_under_117 (lv_at hl 1 rfl) ?_
                      refine lv_ishr hx hb dX8_under_119 ?_
                      refine lv_iconst (v := 1) hx hb dX8_under_120 (by decide) ?_
                      refine lv_iand hx hb dX8_under_121 ?_
                      refine lv_aload_n hx hb dX8_under_122 rfl (lv_at hl 6 rfl) ?_
                      refine mg_ref hx hb hts in_X8 hown hE hP 0 (yl_n hA (by decide)) rfl rfl 11 rfl (by decide) (hts _ q775) (fun _ h9 => h9) dX8_under_123 ?_
                      refine lv_iload hx hb dX8_under_126 (lv_at hl 1 rfl) ?_
                      refine mg_ild hx hb hE hP 7 (yl_n hA (by decide)) rfl k (by omega) rfl (by decide) dX8_under_128 ?_
                      refine lv_imul hx hb dX8_under_129 ?_
                      refine lv_iadd hx hb dX8_under_130 ?_
                      refine lv_istore (lv' := [(9, .int (U + ((((nI (pw - 1 - j)) >>> ((nI k) &&& 31)) &&& 1) * σ 7 k))), (8, .int (S + ((((nI (pw - 1 - j)) >>> ((nI k) &&& 31)) &&& 1) * σ 6 k))), (10, .int (nI k)), (7, .int (nI (pw - 1 - j))), (6, .int fi), (5, .int nn), (0, .ref (ad 0)), (1, .int a1), (2, .int a2), (3, .int a3), (4, .int a4)]) hx hb dX8_under_131 hl (by decide) rfl (fun ls hl => ?_)
                      refine lv_iinc (v := (nI (k + 1))) (lv' := [(10, .int (nI (k + 1))), (9, .int (U + ((((nI (pw - 1 - j)) >>> ((nI k) &&& 31)) &&& 1) * σ 7 k))), (8, .int (S + ((((nI (pw - 1 - j)) >>> ((nI k) &&& 31)) &&& 1) * σ 6 k))), (7, .int (nI (pw - 1 - j))), (6, .int fi), (5, .int nn), (0, .ref (ad 0)), (1, .int a1), (2, .int a2), (3, .int a3), (4, .int a4)]) hx hb dX8_under_133 hl (k := 2) rfl (mi_add rfl rfl) (by decide) rfl (fun ls hl => ?_)
                      refine lv_goto (tgt := 84) hx hb dX8_under_136 (by decide) ?_
                      exact ih84  (k + 1) (S + ((((nI (pw - 1 - j)) >>> ((nI k) &&& 31)) &&& 1) * σ 6 k)) (U + ((((nI (pw - 1 - j)) >>> ((nI k) &&& 31)) &&& 1) * σ 7 k)) (by omega) (by rw [hSk]; rfl) (by rw [hUk]; rfl) (by omega) ls (lv_sub hl [0, 1, 2, 3, 4, 5, 6, 7, 8, 9, 10] rfl)
                exact lp84 (nw - 0 + 1) 0 0 0 (by omega) rfl rfl (by omega) ls (lv_sub hl [0, 1, 2, 3, 4, 5, 6, 7, 8, 9, 10] rfl)
          exact lp70 (pw - 0 + 1) 0 0 (-4) (by omega) rfl (by omega) ls (lv_sub hl [0, 1, 2, 3, 4, 5, 6, 7] rfl)
        · have c_8 : ¬ (ik a4 2) := bi_f c_8
          refine lv_iconst (v := (-1)) hx hb dX8_under_51 (by decide) ?_
          exact W.iret (v := (-1)) hx hb hr (fun t ht hW => ⟨_, rfl, by dsimp only; rw [if_pos c_2, if_pos c_4, if_pos c_6, if_neg c_8], ht⟩) (fun q hq => by cases hq) dX8_under_52
set_option maxHeartbeats 4000000 in
set_option maxRecDepth 100000 in
theorem mt_X8_starts (l : Launch) (D : va_G) (dA : Nat → ClassId) (st : Nat) (hst : st = 1 ∨ st = 2) (ad : Nat → Nat) (N : Nat) (hA : yA ad N) (σ : mMem) (x : Int32) (p : Nat) (hx0 : x = nI p) (hp5 : p < 5) : Met l yX8_starts (ws_ yX8_starts cX8_starts 3 none) ({ frames := 0, cells := 0, slots := 0, locals := 0 }) (va_Pc [.ref (ad 0), .int x] (mPre D dA (shM st) ad N σ)) (va_Qv (fun (u : mMem) => u = stF σ (40 * p) 40) (mB D dA (shM st) ad N) (mAd ad N)) 0 0 (mAd ad N) := by
  refine Met.ofW (cc := cX8_starts) (maxL := 3) (ret := none) (by decide) rfl ?_
  intro pp ee ss mm args below meth cd s₁ B hml hv
  obtain ⟨rfl, hP, hE⟩ := hv
  have hx := B.exec
  have hb := B.bytes
  have hr := B.returns
  have hts := atoms_spec (ws := ws_ yX8_starts cX8_starts 3 none) B.pre
  have hts : ∀ w ∈ lw_all, w.before _ ss = true := fun w h => hts w (List.mem_cons_of_mem _ h)
  have hown : ss.vm.findClass RX8 = some mm.cls := findClass_of_methodNamed B.named
  have hlocks := B.notSynchronized
  have hD := hA.2.self
  have hS : va_S (mAd ad N) ss.heap ss.heap [] := va_S.rf
  have hNN := hA.1
  have hl := lv_entry ([.ref (ad 0), .int x]) (n := 3) (Nat.le_of_ble_eq_true rfl)
  rw [lg_entry_eq]
  generalize (lg_sl ([.ref (ad 0), .int x]) ++ List.replicate (3 - (lg_sl ([.ref (ad 0), .int x])).length) Slot.unset).toArray = ls at hl ⊢
  have hl : lv_has ls 3 [(0, .ref (ad 0)), (1, .int x)] := hl
  refine lv_iconst (v := 0) hx hb dX8_starts_0 (by decide) ?_
  refine lv_istore_n (lv' := [(2, .int 0), (0, .ref (ad 0)), (1, .int x)]) hx hb dX8_starts_1 rfl hl (by decide) rfl (fun ls hl => ?_)
  have lp2 : ∀ (fu : Nat) (k : Nat) (_ : k ≤ 40) (_ : 40 - k < fu) (H : Heap) (locs : List Loc) (_ : va_P D xCl (mW dA (shM st) ad N (stF σ (40 * p) k)) H) (_ : va_S (mAd ad N) ss.heap H locs) (ls : Array Slot) (_ : lv_has ls 3 [(2, .int (nI k)), (0, .ref (ad 0)), (1, .int x)]), W pp l ee (headSpec (ws_ yX8_starts cX8_starts 3 none) ({ frames := 0, cells := 0, slots := 0, locals := 0 })).room ss mm ([.ref (ad 0), .int x] : List Value).toArray below meth cd H locs 0 0 (MQ below (va_Qv (fun (u : mMem) => u = stF σ (40 * p) 40) (mB D dA (shM st) ad N) (mAd ad N)) ([.ref (ad 0), .int x] : List Value).toArray ss 0 0 (mAd ad N)) (F0 mm 2 ls []) := by
    intro fu
    induction fu with
    | zero => intro k hk hfu; exact absurd hfu (Nat.not_lt_zero _)
    | succ fu ih2 =>
      intro k hk hfu H locs hP hS ls hl
      refine lv_iload_n hx hb dX8_starts_2 rfl (lv_at hl 0 rfl) ?_
      refine lv_bipush (v := 40) hx hb dX8_starts_3 (by decide) ?_
      refine lv_icmp_ge (tgt := 31) hx hb dX8_starts_5 (by decide) (fun c_1 => ?_) (fun c_1 => ?_)
      · have nc_1 : 40 ≤ k := mi_le rfl rfl (by omega) (by omega) c_1
        exact W.vret hx hb hr (fun t ht hW => ⟨⟨_, rfl, by rw [show k = 40 by omega], mB.of ht hP⟩, hS.F ht⟩) hS.2.2 dX8_starts_31
      · have nc_1 : k < 40 := mi_nle rfl rfl (by omega) (by omega) c_1
        refine lv_aload_n hx hb dX8_starts_8 rfl (lv_at hl 1 rfl) ?_
        refine mg_ref hx hb hts in_X8 hown hE hP 0 (yl_n hA (by decide)) rfl rfl 21 rfl (by decide) (hts _ q785) (fun _ h9 => h9) dX8_starts_9 ?_
        refine lv_iload_n hx hb dX8_starts_12 rfl (lv_at hl 0 rfl) ?_
        refine lv_aload_n hx hb dX8_starts_13 rfl (lv_at hl 1 rfl) ?_
        refine mg_ref hx hb hts in_X8 hown hE hP 0 (yl_n hA (by decide)) rfl rfl 1 rfl (by decide) (hts _ q765) (fun _ h9 => h9) dX8_starts_14 ?_
        refine lv_bipush (v := 40) hx hb dX8_starts_17 (by decide) ?_
        refine lv_iload_n hx hb dX8_starts_19 rfl (lv_at hl 2 rfl) ?_
        refine lv_imul hx hb dX8_starts_20 ?_
        refine lv_iload_n hx hb dX8_starts_21 rfl (lv_at hl 0 rfl) ?_
        refine lv_iadd hx hb dX8_starts_22 ?_
        refine mg_ild hx hb hE hP 1 (yl_n hA (by decide)) rfl (40 * p + k) (by omega) (mi_add (mi_mul rfl hx0) rfl) (by decide) dX8_starts_23 ?_
        refine mg_ist (v := (stF σ (40 * p) k) 1 (40 * p + k)) hx hb hE hD hP hS 12 (yl_n hA (by decide)) rfl k (by omega) rfl (by decide) dX8_starts_24 (fun H locs hP hS => ?_)
        refine lv_iinc (v := (nI (k + 1))) (lv' := [(2, .int (nI (k + 1))), (0, .ref (ad 0)), (1, .int x)]) hx hb dX8_starts_25 hl (k := 0) rfl (mi_add rfl rfl) (by decide) rfl (fun ls hl => ?_)
        refine lv_goto (tgt := 2) hx hb dX8_starts_28 (by decide) ?_
        exact ih2  (k + 1) (by omega) (by omega) _ _ (m_eq (rfl) hP) hS ls (lv_sub hl [0, 1, 2] rfl)
  exact lp2 (40 - 0 + 1) 0 (by omega) (by omega) _ _ (m_eq (rfl) hP) hS ls (lv_sub hl [0, 1, 2] rfl)
set_option maxHeartbeats 4000000 in
set_option maxRecDepth 100000 in
theorem mt_X8_isLawful (l : Launch) (D : va_G) (dA : Nat → ClassId) (st : Nat) (hst : st = 1 ∨ st = 2) (ad : Nat → Nat) (N : Nat) (hA : yA ad N) (σ : mMem) (x : Int32) (n : Nat) (hx0 : x = nI n) (hn6 : n ≤ 6) (o : Nat → Nat) (ho : ∀ k, k < n → σ 10 k = nI (o k) ∧ o k < 6) (ru : Nat) (hru : σ 5 0 = nI ru) (hru3 : ru < 3) : Met l yX8_isLawful (ws_ yX8_isLawful cX8_isLawful 4 (some .boolean)) ({ frames := 0, cells := 0, slots := 0, locals := 0 }) (va_Pc [.ref (ad 0), .int x] (mPre D dA (shM st) ad N σ)) (vp_Si (fun r : Int32 => r = bi (lawB ru n o (n) = true))) 0 0 (fun _ => False) := by
  refine Met.ofW (cc := cX8_isLawful) (maxL := 4) (ret := (some .boolean)) (by decide) rfl ?_
  intro pp ee ss mm args below meth cd s₁ B hml hv
  obtain ⟨rfl, hP, hE⟩ := hv
  have hx := B.exec
  have hb := B.bytes
  have hr := B.returns
  have hts := atoms_spec (ws := ws_ yX8_isLawful cX8_isLawful 4 (some .boolean)) B.pre
  have hts : ∀ w ∈ lw_all, w.before _ ss = true := fun w h => hts w (List.mem_cons_of_mem _ h)
  have hown : ss.vm.findClass RX8 = some mm.cls := findClass_of_methodNamed B.named
  have hlocks := B.notSynchronized
  have hNN := hA.1
  have hl := lv_entry ([.ref (ad 0), .int x]) (n := 4) (Nat.le_of_ble_eq_true rfl)
  rw [lg_entry_eq]
  generalize (lg_sl ([.ref (ad 0), .int x]) ++ List.replicate (4 - (lg_sl ([.ref (ad 0), .int x])).length) Slot.unset).toArray = ls at hl ⊢
  have hl : lv_has ls 4 [(0, .ref (ad 0)), (1, .int x)] := hl
  refine lv_iconst (v := 1) hx hb dX8_isLawful_0 (by decide) ?_
  refine lv_rwi (bi_1 rfl : _ = bi (lawB ru n o (0) = true)) ?_
  refine lv_istore_n (lv' := [(2, .int (bi (lawB ru n o (0) = true))), (0, .ref (ad 0)), (1, .int x)]) hx hb dX8_isLawful_1 rfl hl (by decide) rfl (fun ls hl => ?_)
  refine lv_iconst (v := 0) hx hb dX8_isLawful_2 (by decide) ?_
  refine lv_istore_n (lv' := [(3, .int 0), (2, .int (bi (lawB ru n o (0) = true))), (0, .ref (ad 0)), (1, .int x)]) hx hb dX8_isLawful_3 rfl hl (by decide) rfl (fun ls hl => ?_)
  have lp4 : ∀ (fu : Nat) (k : Nat) (_ : k ≤ n) (_ : n - k < fu) (ls : Array Slot) (_ : lv_has ls 4 [(3, .int (nI k)), (2, .int (bi (lawB ru n o (k) = true))), (0, .ref (ad 0)), (1, .int x)]), W pp l ee (headSpec (ws_ yX8_isLawful cX8_isLawful 4 (some .boolean)) ({ frames := 0, cells := 0, slots := 0, locals := 0 })).room ss mm ([.ref (ad 0), .int x] : List Value).toArray below meth cd ss.heap [] 0 0 (MQ below (vp_Si (fun r : Int32 => r = bi (lawB ru n o (n) = true))) ([.ref (ad 0), .int x] : List Value).toArray ss 0 0 (fun _ => False)) (F0 mm 4 ls []) := by
    intro fu
    induction fu with
    | zero => intro k hk hfu; exact absurd hfu (Nat.not_lt_zero _)
    | succ fu ih4 =>
      intro k hk hfu ls hl
      refine lv_iload_n hx hb dX8_isLawful_4 rfl (lv_at hl 0 rfl) ?_
      refine lv_iload_n hx hb dX8_isLawful_5 rfl (lv_at hl 3 rfl) ?_
      refine lv_icmp_ge (tgt := 90) hx hb dX8_isLawful_6 (by decide) (fun c_1 => ?_) (fun c_1 => ?_)
      · have nc_1 : n ≤ k := mi_le hx0 rfl (by omega) (by omega) c_1
        refine lv_iload_n hx hb dX8_isLawful_90 rfl (lv_at hl 1 rfl) ?_
        exact W.zret (v := (bi (lawB ru n o (k) = true))) hx hb hr bi_nar (fun t ht hW => ⟨_, rfl, by rw [show k = n by omega], ht⟩) (fun q hq => by cases hq) dX8_isLawful_91
      · have nc_1 : k < n := mi_nle hx0 rfl (by omega) (by omega) c_1
        have hok := (ho k (by omega)).2
        refine lv_iload_n hx hb dX8_isLawful_9 rfl (lv_at hl 1 rfl) ?_
        refine lv_if_eq (tgt := 82) hx hb dX8_isLawful_10 (by decide) (fun c_2 => ?_) (fun c_2 => ?_)
        · have c_2 : ¬ (lawB ru n o (k) = true) := bi_f c_2
          refine lv_iconst (v := 0) hx hb dX8_isLawful_82 (by decide) ?_
          refine lv_rwi (bi_0 (lawB_n1 c_2) : _ = bi (lawB ru n o (k + 1) = true)) ?_
          refine lv_istore_n (lv' := [(2, .int (bi (lawB ru n o (k + 1) = true))), (3, .int (nI k)), (0, .ref (ad 0)), (1, .int x)]) hx hb dX8_isLawful_83 rfl hl (by decide) rfl (fun ls hl => ?_)
          refine lv_iinc (v := (nI (k + 1))) (lv' := [(3, .int (nI (k + 1))), (2, .int (bi (lawB ru n o (k + 1) = true))), (0, .ref (ad 0)), (1, .int x)]) hx hb dX8_isLawful_84 hl (k := 1) rfl (mi_add rfl rfl) (by decide) rfl (fun ls hl => ?_)
          refine lv_goto (tgt := 4) hx hb dX8_isLawful_87 (by decide) ?_
          exact ih4  (k + 1) (by omega) (by omega) ls (lv_sub hl [0, 1, 2, 3] rfl)
        · have c_2 : lawB ru n o (k) = true := bi_t c_2
          refine lv_aload_n hx hb dX8_isLawful_13 rfl (lv_at hl 2 rfl) ?_
          refine mg_ref hx hb hts in_X8 hown hE hP 0 (yl_n hA (by decide)) rfl rfl 6 rfl (by decide) (hts _ q770) (fun _ h9 => h9) dX8_isLawful_14 ?_
          refine lv_iconst (v := 0) hx hb dX8_isLawful_17 (by decide) ?_
          refine mg_ild hx hb hE hP 5 (yl_n hA (by decide)) rfl 0 (by omega) rfl (by decide) dX8_isLawful_18 ?_
          refine lv_if_ne (tgt := 39) hx hb dX8_isLawful_19 (by decide) (fun c_3 => ?_) (fun c_3 => ?_)
          · have nc_3 : ru ≠ 0 := mi_ne hru rfl (by omega) (by omega) c_3
            refine lv_aload_n hx hb dX8_isLawful_39 rfl (lv_at hl 2 rfl) ?_
            refine mg_ref hx hb hts in_X8 hown hE hP 0 (yl_n hA (by decide)) rfl rfl 6 rfl (by decide) (hts _ q770) (fun _ h9 => h9) dX8_isLawful_40 ?_
            refine lv_iconst (v := 0) hx hb dX8_isLawful_43 (by decide) ?_
            refine mg_ild hx hb hE hP 5 (yl_n hA (by decide)) rfl 0 (by omega) rfl (by decide) dX8_isLawful_44 ?_
            refine lv_iconst (v := 1) hx hb dX8_isLawful_45 (by decide) ?_
            refine lv_icmp_ne (tgt := 62) hx hb dX8_isLawful_46 (by decide) (fun c_4 => ?_) (fun c_4 => ?_)
            · have nc_4 : ru ≠ 1 := mi_ne hru rfl (by omega) (by omega) c_4
              refine lv_aload_n hx hb dX8_isLawful_62 rfl (lv_at hl 2 rfl) ?_
              refine mg_ref hx hb hts in_X8 hown hE hP 0 (yl_n hA (by decide)) rfl rfl 17 rfl (by decide) (hts _ q781) (fun _ h9 => h9) dX8_isLawful_63 ?_
              refine lv_iload_n hx hb dX8_isLawful_66 rfl (lv_at hl 0 rfl) ?_
              refine mg_ild hx hb hE hP 10 (yl_n hA (by decide)) rfl k (by omega) rfl (by decide) dX8_isLawful_67 ?_
              refine lv_if_gt (tgt := 78) hx hb dX8_isLawful_68 (by decide) (fun c_5 => ?_) (fun c_5 => ?_)
              · have nc_5 : 0 < o k := mi_lt rfl ((ho k (by omega)).1) (by omega) (by omega) c_5
                refine lv_iconst (v := 1) hx hb dX8_isLawful_78 (by decide) ?_
                refine lv_goto (tgt := 83) hx hb dX8_isLawful_79 (by decide) ?_
                refine lv_rwi (bi_1 (lawB_s c_2 (by unfold lawK; split <;> (try split) <;> omega)) : _ = bi (lawB ru n o (k + 1) = true)) ?_
                refine lv_istore_n (lv' := [(2, .int (bi (lawB ru n o (k + 1) = true))), (3, .int (nI k)), (0, .ref (ad 0)), (1, .int x)]) hx hb dX8_isLawful_83 rfl hl (by decide) rfl (fun ls hl => ?_)
                refine lv_iinc (v := (nI (k + 1))) (lv' := [(3, .int (nI (k + 1))), (2, .int (bi (lawB ru n o (k + 1) = true))), (0, .ref (ad 0)), (1, .int x)]) hx hb dX8_isLawful_84 hl (k := 1) rfl (mi_add rfl rfl) (by decide) rfl (fun ls hl => ?_)
                refine lv_goto (tgt := 4) hx hb dX8_isLawful_87 (by decide) ?_
                exact ih4  (k + 1) (by omega) (by omega) ls (lv_sub hl [0, 1, 2, 3] rfl)
              · have nc_5 : o k ≤ 0 := mi_nlt rfl ((ho k (by omega)).1) (by omega) (by omega) c_5
                refine lv_iload_n hx hb dX8_isLawful_71 rfl (lv_at hl 0 rfl) ?_
                refine lv_iload_n hx hb dX8_isLawful_72 rfl (lv_at hl 3 rfl) ?_
                refine lv_iconst (v := 1) hx hb dX8_isLawful_73 (by decide) ?_
                refine lv_isub hx hb dX8_isLawful_74 ?_
                refine lv_icmp_ne (tgt := 82) hx hb dX8_isLawful_75 (by decide) (fun c_6 => ?_) (fun c_6 => ?_)
                · have nc_6 : k ≠ n - 1 := mi_ne rfl (mi_sub (a := n) (b := 1) hx0 rfl (by omega)) (by omega) (by omega) c_6
                  refine lv_iconst (v := 0) hx hb dX8_isLawful_82 (by decide) ?_
                  refine lv_rwi (bi_0 (lawB_n2 (by unfold lawK; split <;> (try split) <;> omega)) : _ = bi (lawB ru n o (k + 1) = true)) ?_
                  refine lv_istore_n (lv' := [(2, .int (bi (lawB ru n o (k + 1) = true))), (3, .int (nI k)), (0, .ref (ad 0)), (1, .int x)]) hx hb dX8_isLawful_83 rfl hl (by decide) rfl (fun ls hl => ?_)
                  refine lv_iinc (v := (nI (k + 1))) (lv' := [(3, .int (nI (k + 1))), (2, .int (bi (lawB ru n o (k + 1) = true))), (0, .ref (ad 0)), (1, .int x)]) hx hb dX8_isLawful_84 hl (k := 1) rfl (mi_add rfl rfl) (by decide) rfl (fun ls hl => ?_)
                  refine lv_goto (tgt := 4) hx hb dX8_isLawful_87 (by decide) ?_
                  exact ih4  (k + 1) (by omega) (by omega) ls (lv_sub hl [0, 1, 2, 3] rfl)
                · have nc_6 : k = n - 1 := mi_eq rfl (mi_sub (a := n) (b := 1) hx0 rfl (by omega)) (by omega) (by omega) c_6
                  refine lv_iconst (v := 1) hx hb dX8_isLawful_78 (by decide) ?_
                  refine lv_goto (tgt := 83) hx hb dX8_isLawful_79 (by decide) ?_
                  refine lv_rwi (bi_1 (lawB_s c_2 (by unfold lawK; split <;> (try split) <;> omega)) : _ = bi (lawB ru n o (k + 1) = true)) ?_
                  refine lv_istore_n (lv' := [(2, .int (bi (lawB ru n o (k + 1) = true))), (3, .int (nI k)), (0, .ref (ad 0)), (1, .int x)]) hx hb dX8_isLawful_83 rfl hl (by decide) rfl (fun ls hl => ?_)
                  refine lv_iinc (v := (nI (k + 1))) (lv' := [(3, .int (nI (k + 1))), (2, .int (bi (lawB ru n o (k + 1) = true))), (0, .ref (ad 0)), (1, .int x)]) hx hb dX8_isLawful_84 hl (k := 1) rfl (mi_add rfl rfl) (by decide) rfl (fun ls hl => ?_)
                  refine lv_goto (tgt := 4) hx hb dX8_isLawful_87 (by decide) ?_
                  exact ih4  (k + 1) (by omega) (by omega) ls (lv_sub hl [0, 1, 2, 3] rfl)
            · have nc_4 : ru = 1 := mi_eq hru rfl (by omega) (by omega) c_4
              refine lv_aload_n hx hb dX8_isLawful_49 rfl (lv_at hl 2 rfl) ?_
              refine mg_ref hx hb hts in_X8 hown hE hP 0 (yl_n hA (by decide)) rfl rfl 17 rfl (by decide) (hts _ q781) (fun _ h9 => h9) dX8_isLawful_50 ?_
              refine lv_iload_n hx hb dX8_isLawful_53 rfl (lv_at hl 0 rfl) ?_
              refine mg_ild hx hb hE hP 10 (yl_n hA (by decide)) rfl k (by omega) rfl (by decide) dX8_isLawful_54 ?_
              refine lv_iload_n hx hb dX8_isLawful_55 rfl (lv_at hl 0 rfl) ?_
              refine lv_icmp_ne (tgt := 82) hx hb dX8_isLawful_56 (by decide) (fun c_7 => ?_) (fun c_7 => ?_)
              · have nc_7 : o k ≠ k := mi_ne ((ho k (by omega)).1) rfl (by omega) (by omega) c_7
                refine lv_iconst (v := 0) hx hb dX8_isLawful_82 (by decide) ?_
                refine lv_rwi (bi_0 (lawB_n2 (by unfold lawK; split <;> (try split) <;> omega)) : _ = bi (lawB ru n o (k + 1) = true)) ?_
                refine lv_istore_n (lv' := [(2, .int (bi (lawB ru n o (k + 1) = true))), (3, .int (nI k)), (0, .ref (ad 0)), (1, .int x)]) hx hb dX8_isLawful_83 rfl hl (by decide) rfl (fun ls hl => ?_)
                refine lv_iinc (v := (nI (k + 1))) (lv' := [(3, .int (nI (k + 1))), (2, .int (bi (lawB ru n o (k + 1) = true))), (0, .ref (ad 0)), (1, .int x)]) hx hb dX8_isLawful_84 hl (k := 1) rfl (mi_add rfl rfl) (by decide) rfl (fun ls hl => ?_)
                refine lv_goto (tgt := 4) hx hb dX8_isLawful_87 (by decide) ?_
                exact ih4  (k + 1) (by omega) (by omega) ls (lv_sub hl [0, 1, 2, 3] rfl)
              · have nc_7 : o k = k := mi_eq ((ho k (by omega)).1) rfl (by omega) (by omega) c_7
                refine lv_goto (tgt := 78) hx hb dX8_isLawful_59 (by decide) ?_
                refine lv_iconst (v := 1) hx hb dX8_isLawful_78 (by decide) ?_
                refine lv_goto (tgt := 83) hx hb dX8_isLawful_79 (by decide) ?_
                refine lv_rwi (bi_1 (lawB_s c_2 (by unfold lawK; split <;> (try split) <;> omega)) : _ = bi (lawB ru n o (k + 1) = true)) ?_
                refine lv_istore_n (lv' := [(2, .int (bi (lawB ru n o (k + 1) = true))), (3, .int (nI k)), (0, .ref (ad 0)), (1, .int x)]) hx hb dX8_isLawful_83 rfl hl (by decide) rfl (fun ls hl => ?_)
                refine lv_iinc (v := (nI (k + 1))) (lv' := [(3, .int (nI (k + 1))), (2, .int (bi (lawB ru n o (k + 1) = true))), (0, .ref (ad 0)), (1, .int x)]) hx hb dX8_isLawful_84 hl (k := 1) rfl (mi_add rfl rfl) (by decide) rfl (fun ls hl => ?_)
                refine lv_goto (tgt := 4) hx hb dX8_isLawful_87 (by decide) ?_
                exact ih4  (k + 1) (by omega) (by omega) ls (lv_sub hl [0, 1, 2, 3] rfl)
          · have nc_3 : ru = 0 := mi_eq hru rfl (by omega) (by omega) c_3
            refine lv_aload_n hx hb dX8_isLawful_22 rfl (lv_at hl 2 rfl) ?_
            refine mg_ref hx hb hts in_X8 hown hE hP 0 (yl_n hA (by decide)) rfl rfl 17 rfl (by decide) (hts _ q781) (fun _ h9 => h9) dX8_isLawful_23 ?_
            refine lv_iload_n hx hb dX8_isLawful_26 rfl (lv_at hl 0 rfl) ?_
            refine mg_ild hx hb hE hP 10 (yl_n hA (by decide)) rfl k (by omega) rfl (by decide) dX8_isLawful_27 ?_
            refine lv_iload_n hx hb dX8_isLawful_28 rfl (lv_at hl 3 rfl) ?_
            refine lv_iconst (v := 1) hx hb dX8_isLawful_29 (by decide) ?_
            refine lv_isub hx hb dX8_isLawful_30 ?_
            refine lv_iload_n hx hb dX8_isLawful_31 rfl (lv_at hl 0 rfl) ?_
            refine lv_isub hx hb dX8_isLawful_32 ?_
            refine lv_icmp_ne (tgt := 82) hx hb dX8_isLawful_33 (by decide) (fun c_8 => ?_) (fun c_8 => ?_)
            · have nc_8 : o k ≠ (n - 1) - k := mi_ne ((ho k (by omega)).1) (mi_sub (a := n - 1) (b := k) (mi_sub (a := n) (b := 1) hx0 rfl (by omega)) rfl (by omega)) (by omega) (by omega) c_8
              refine lv_iconst (v := 0) hx hb dX8_isLawful_82 (by decide) ?_
              refine lv_rwi (bi_0 (lawB_n2 (by unfold lawK; split <;> (try split) <;> omega)) : _ = bi (lawB ru n o (k + 1) = true)) ?_
              refine lv_istore_n (lv' := [(2, .int (bi (lawB ru n o (k + 1) = true))), (3, .int (nI k)), (0, .ref (ad 0)), (1, .int x)]) hx hb dX8_isLawful_83 rfl hl (by decide) rfl (fun ls hl => ?_)
              refine lv_iinc (v := (nI (k + 1))) (lv' := [(3, .int (nI (k + 1))), (2, .int (bi (lawB ru n o (k + 1) = true))), (0, .ref (ad 0)), (1, .int x)]) hx hb dX8_isLawful_84 hl (k := 1) rfl (mi_add rfl rfl) (by decide) rfl (fun ls hl => ?_)
              refine lv_goto (tgt := 4) hx hb dX8_isLawful_87 (by decide) ?_
              exact ih4  (k + 1) (by omega) (by omega) ls (lv_sub hl [0, 1, 2, 3] rfl)
            · have nc_8 : o k = (n - 1) - k := mi_eq ((ho k (by omega)).1) (mi_sub (a := n - 1) (b := k) (mi_sub (a := n) (b := 1) hx0 rfl (by omega)) rfl (by omega)) (by omega) (by omega) c_8
              refine lv_goto (tgt := 78) hx hb dX8_isLawful_36 (by decide) ?_
              refine lv_iconst (v := 1) hx hb dX8_isLawful_78 (by decide) ?_
              refine lv_goto (tgt := 83) hx hb dX8_isLawful_79 (by decide) ?_
              refine lv_rwi (bi_1 (lawB_s c_2 (by unfold lawK; split <;> (try split) <;> omega)) : _ = bi (lawB ru n o (k + 1) = true)) ?_
              refine lv_istore_n (lv' := [(2, .int (bi (lawB ru n o (k + 1) = true))), (3, .int (nI k)), (0, .ref (ad 0)), (1, .int x)]) hx hb dX8_isLawful_83 rfl hl (by decide) rfl (fun ls hl => ?_)
              refine lv_iinc (v := (nI (k + 1))) (lv' := [(3, .int (nI (k + 1))), (2, .int (bi (lawB ru n o (k + 1) = true))), (0, .ref (ad 0)), (1, .int x)]) hx hb dX8_isLawful_84 hl (k := 1) rfl (mi_add rfl rfl) (by decide) rfl (fun ls hl => ?_)
              refine lv_goto (tgt := 4) hx hb dX8_isLawful_87 (by decide) ?_
              exact ih4  (k + 1) (by omega) (by omega) ls (lv_sub hl [0, 1, 2, 3] rfl)
  exact lp4 (n - 0 + 1) 0 (by omega) (by omega) ls (lv_sub hl [0, 1, 2, 3] rfl)
