section
variable {p : Program} {l : Launch} {e : Env} {R : Room} {s : State} {m : MethodId} {args : Array Value} {below : List Frame} {meth : Method} {c : Code} {H : Heap} {locs : List Loc} {cells slots : Nat} {Q : State → Prop}
variable {cc : ByteArray} {pc : Nat} {ls : Array Slot} {rest : List Value} {D : va_G} {dA : Nat → ClassId} {sh : Nat → mSh} {ad : Nat → Nat} {N : Nat} {σ : mMem} {A : Nat → Prop} {H0 : Heap}
theorem mg_bst (hexec : p.tables.exec = Jvm.exec) (hb : c.code = cc) (hE : mE D dA s) (hD : mD A ad N) (hP : va_P D xCl (mW dA sh ad N σ) H) (hS : va_S A H0 H locs) (i : Nat) (hi : i < N) {n : Nat} (he : sh i = .inr (.inl (1, n))) {x v : Int32} (a : Nat) (ha : a < n) (hx : x = nI a) (hn : n < 2 ^ 31) (hv : vp_nar .byte v = v) (hdg : decode cc pc = .ok (.bastore, 1))
    (kk : ∀ (H1 : Heap) (locs1 : List Loc), va_P D xCl (mW dA sh ad N (mup σ i a v)) H1 → va_S A H0 H1 locs1 → W p l e R s m args below meth c H1 locs1 cells slots Q (F0 m (pc + 1) ls rest)) : W p l e R s m args below meth c H locs cells slots Q (F0 m pc ls (.int v :: .int x :: .ref (ad i) :: rest)) := by
  subst hx
  refine va_bast hexec hb hE.1 hP hD.to hS i 1 (n := n) (f := σ i) (by rw [mW_get hi, he]; rfl) rfl (vp_in_nI ha hn) hdg (fun H1 locs1 hP1 _ hS1 => kk H1 locs1 ?_ hS1)
  rw [nI_clamp (by omega), hv, m_setA hi he] at hP1
  exact hP1
end
theorem p256 {n : Nat} (h : n ≤ 8) : 2 ^ n ≤ 256 := Nat.pow_le_pow_right (by decide) h
theorem sh1 {y : Int32} {n : Nat} (h : y = nI n) (h8 : n ≤ 8) : (1 : Int32) <<< (y &&& 31) = nI (2 ^ n) := by
  subst h
  rcases (show n = 0 ∨ n = 1 ∨ n = 2 ∨ n = 3 ∨ n = 4 ∨ n = 5 ∨ n = 6 ∨ n = 7 ∨ n = 8 by omega) with rfl | rfl | rfl | rfl | rfl | rfl | rfl | rfl | rfl <;> decide
def usm (f : Nat → Int32) (s : Nat) : Nat → Int32
  | 0 => 0
  | k + 1 => usm f s k + (if ((nI s >>> (nI k &&& 31)) &&& 1) = 1 then f k else 0)
abbrev unO (σ : mMem) (nw : Nat) (a1 a2 a3 : Int32) (s : Nat) : Prop := ((nI s >>> (a1 &&& 31)) &&& 1) = 1 ∧ usm (σ 22) s nw = a3 ∧ usm (σ 23) s nw = a2
def unF (ok : Nat → Prop) [DecidablePred ok] : Nat → Int32 × Int32
  | 0 => (0, -4)
  | i + 1 => if ok (i + 1) then ((unF ok i).1 + 1, if (unF ok i).1 = 0 then nI (i + 1) else (unF ok i).2) else unF ok i
theorem m1_pos {j : Nat} (h : ¬ nI j - 1 < 0) : 0 < j := by
  rcases Nat.eq_zero_or_pos j with e | e
  · subst e; exact absurd (by decide) h
  · exact e
theorem m1_neg {j : Nat} (hj : j < 2 ^ 30) (h : nI j - 1 < 0) : j = 0 := by
  rw [i_lt, nI_m1 rfl hj, show (0 : Int32).toInt = 0 from rfl] at h
  omega
theorem dec1 {j : Nat} (h : 0 < j) : nI j - 1 + Int32.ofInt (-1) = nI (j - 1) - 1 := by
  have e : nI j - 1 = nI (j - 1) := mi_sub (a := j) (b := 1) rfl rfl (by omega)
  rw [e, Int32.sub_eq_add_neg]
  rfl
theorem dec2 {n c : Nat} (h : 0 < n - c) : nI (n - c) - 1 + Int32.ofInt (-1) = nI (n - (c + 1)) - 1 := by
  rw [dec1 h, show n - c - 1 = n - (c + 1) by omega]
/-- the byte k of a long -/
def tby (w : Int64) (k : Nat) : Int64 := w >>> ((nI (8 * k)).toInt64 &&& 63)
abbrev okb (w : Int64) (k : Nat) : Prop := iv (tby w k &&& 255).toInt32 32 126
theorem okb_of (w : Int64) (k : Nat) : ((32 : Int32) ≤ (w >>> ((nI (8 * k)).toInt64 &&& 63) &&& 255).toInt32 ∧ (w >>> ((nI (8 * k)).toInt64 &&& 63) &&& 255).toInt32 ≤ 126) ↔ okb w k := iv_of rfl rfl
theorem okb_step {w : Int64} {j n : Nat} (hj : 0 < j) (h : ∀ i, j ≤ i → i < n → okb w i) (h1 : okb w (j - 1)) : ∀ i, j - 1 ≤ i → i < n → okb w i := by
  intro i a b
  by_cases e : i = j - 1
  · rw [e]; exact h1
  · exact h i (by omega) b
def tpF (σ : mMem) (w : Int64) (t n : Nat) : Nat → mMem
  | 0 => σ
  | c + 1 => mup (mup (tpF σ w t n c) 18 (t + c) (tby w (n - c - 1)).toInt32.toInt8.toInt32) 0 7 (nI (t + c + 1))
theorem tpF_7 {σ : mMem} {w : Int64} {t n : Nat} (h : σ 0 7 = nI t) : ∀ c, tpF σ w t n c 0 7 = nI (t + c)
  | 0 => h
  | c + 1 => by rw [tpF, mup_self]; rfl
theorem mup_id {σ : mMem} {i k : Nat} {v : Int32} (h : σ i k = v) : mup σ i k v = σ := by
  funext a b
  rw [mup_at]
  split
  · rename_i q; rw [q.1, q.2, h]
  · rfl
theorem mup_mup (σ : mMem) (i k : Nat) (v v' : Int32) : mup (mup σ i k v) i k v' = mup σ i k v' := by
  funext a b
  rw [mup_at, mup_at, mup_at]
  split <;> rfl
/-- behind the spaces -/
def skp (f : Nat → Int32) (tp : Nat) : Nat → Nat → Nat
  | 0, a => a
  | fu + 1, a => if a < tp ∧ f a = 32 then skp f tp fu (a + 1) else a
def nxB (f : Nat → Int32) (tp a : Nat) : Int32 := if skp f tp (tp - a) a < tp then f (skp f tp (tp - a) a) else -1
set_option maxHeartbeats 4000000 in
set_option maxRecDepth 100000 in
theorem mt_X0_under (l : Launch) (D : va_G) (dA : Nat → ClassId) (rr : Nat → Option Nat) (xs : Nat → mSh) (ad : Nat → Nat) (N : Nat) (hA : xA ad N) (σ : mMem) (a1 a2 a3 a4 : Int32) (nw : Nat) (hnw : σ 0 19 = nI nw) (hnw8 : nw ≤ 8) : Met l yX0_under (ws_ yX0_under cX0_under 11 (some .int)) ({ frames := 1, cells := 0, slots := 0, locals := 22 }) (va_Pc [.ref (ad 0), .int a1, .int a2, .int a3, .int a4] (mPre D dA (shX rr xs) ad N σ)) (vp_Si (fun r : Int32 => r = (if ik a1 nw then (if iv a2 1 99 then (if iv a3 1 99999 then (if ik a4 2 then (if tn a4 = 0 then (unF (unO σ nw a1 a2 a3) (2 ^ nw - 1)).1 else (unF (unO σ nw a1 a2 a3) (2 ^ nw - 1)).2) else -1) else -1) else -1) else -1))) 0 0 (fun _ => False) := by
  refine Met.ofW (cc := cX0_under) (maxL := 11) (ret := (some .int)) (by decide) rfl ?_
  intro pp ee ss mm args below meth cd s₁ B hml hv
  obtain ⟨rfl, hP, hE⟩ := hv
  have hx := B.exec
  have hb := B.bytes
  have hr := B.returns
  have hts := atoms_spec (ws := ws_ yX0_under cX0_under 11 (some .int)) B.pre
  have hts : ∀ w ∈ lw_all, w.before _ ss = true := fun w h => hts w (List.mem_cons_of_mem _ h)
  have hown : ss.vm.findClass RX0 = some mm.cls := findClass_of_methodNamed B.named
  have hlocks := B.notSynchronized
  have hNN := hA.1
  obtain ⟨pw, hpw⟩ : ∃ z, z = 2 ^ nw := ⟨_, rfl⟩
  have h256 : pw ≤ 256 := by rw [hpw]; exact p256 hnw8
  have hp1 : 1 ≤ pw := by rw [hpw]; exact Nat.one_le_two_pow
  have hl := lv_entry ([.ref (ad 0), .int a1, .int a2, .int a3, .int a4]) (n := 11) (Nat.le_of_ble_eq_true rfl)
  rw [lg_entry_eq]
  generalize (lg_sl ([.ref (ad 0), .int a1, .int a2, .int a3, .int a4]) ++ List.replicate (11 - (lg_sl ([.ref (ad 0), .int a1, .int a2, .int a3, .int a4])).length) Slot.unset).toArray = ls at hl ⊢
  have hl : lv_has ls 11 [(0, .ref (ad 0)), (1, .int a1), (2, .int a2), (3, .int a3), (4, .int a4)] := hl
  refine lv_iload_n hx hb dX0_under_0 rfl (lv_at hl 1 rfl) ?_
  refine lv_iconst (v := 0) hx hb dX0_under_1 (by decide) ?_
  refine lv_aload_n hx hb dX0_under_2 rfl (lv_at hl 0 rfl) ?_
  refine mg_get hx hb hts in_X0 hown hE hP 0 (xl_n hA (by decide)) rfl rfl 19 rfl (by decide) (hts _ q283) (fun _ h9 => h9) dX0_under_3 ?_
  refine lv_iconst (v := 1) hx hb dX0_under_6 (by decide) ?_
  refine lv_isub hx hb dX0_under_7 ?_
  refine vp_callSi (W.runS (As := [.int a1, .int 0, .int (σ 0 19 - 1)]) (rest := []) ⟨hx, hb, hml, hown, hts⟩ (mt_X0_isIn l a1 0 (σ 0 19 - 1)) (va_cwS 3 hts (lw_S q344 q345 q45 q346) rfl rfl rfl (by decide +kernel) ⟨Nat.le_of_ble_eq_true rfl, Nat.le_of_ble_eq_true rfl⟩) ⟨fun _ _ _ _ h => h, fun _ _ _ => ⟨rfl, trivial⟩⟩ rfl rfl hl.1 rfl (lv_room (Nat.le_of_ble_eq_true rfl)) dX0_under_8 ⟨Nat.le_of_ble_eq_true rfl, Nat.le_of_ble_eq_true rfl⟩) (fun r_1 hr_1 => ?_)
  subst hr_1
  refine lv_rwi (bi_c (ik_of rfl (nI_m1 hnw (by omega)))) ?_
  refine lv_if_eq (tgt := 44) hx hb dX0_under_11 (by decide) (fun c_2 => ?_) (fun c_2 => ?_)
  · have c_2 : ¬ (ik a1 nw) := bi_f c_2
    refine lv_iconst (v := (-1)) hx hb dX0_under_44 (by decide) ?_
    exact W.iret (v := (-1)) hx hb hr (fun t ht hW => ⟨_, rfl, by dsimp only; rw [if_neg c_2], ht⟩) (fun q hq => by cases hq) dX0_under_45
  · have c_2 : ik a1 nw := bi_t c_2
    have c_2_lt := ik_lt c_2
    refine lv_iload_n hx hb dX0_under_14 rfl (lv_at hl 2 rfl) ?_
    refine lv_iconst (v := 1) hx hb dX0_under_15 (by decide) ?_
    refine lv_bipush (v := 99) hx hb dX0_under_16 (by decide) ?_
    refine vp_callSi (W.runS (As := [.int a2, .int 1, .int 99]) (rest := []) ⟨hx, hb, hml, hown, hts⟩ (mt_X0_isIn l a2 1 99) (va_cwS 3 hts (lw_S q344 q345 q45 q346) rfl rfl rfl (by decide +kernel) ⟨Nat.le_of_ble_eq_true rfl, Nat.le_of_ble_eq_true rfl⟩) ⟨fun _ _ _ _ h => h, fun _ _ _ => ⟨rfl, trivial⟩⟩ rfl rfl hl.1 rfl (lv_room (Nat.le_of_ble_eq_true rfl)) dX0_under_18 ⟨Nat.le_of_ble_eq_true rfl, Nat.le_of_ble_eq_true rfl⟩) (fun r_3 hr_3 => ?_)
    subst hr_3
    refine lv_rwi (bi_c (iv_of rfl rfl)) ?_
    refine lv_if_eq (tgt := 44) hx hb dX0_under_21 (by decide) (fun c_4 => ?_) (fun c_4 => ?_)
    · have c_4 : ¬ (iv a2 1 99) := bi_f c_4
      refine lv_iconst (v := (-1)) hx hb dX0_under_44 (by decide) ?_
      exact W.iret (v := (-1)) hx hb hr (fun t ht hW => ⟨_, rfl, by dsimp only; rw [if_pos c_2, if_neg c_4], ht⟩) (fun q hq => by cases hq) dX0_under_45
    · have c_4 : iv a2 1 99 := bi_t c_4
      have c_4_tn := iv_tn c_4 (by decide)
      refine lv_iload_n hx hb dX0_under_24 rfl (lv_at hl 3 rfl) ?_
      refine lv_iconst (v := 1) hx hb dX0_under_25 (by decide) ?_
      refine lv_ldc hx hb hown (hts _ q434) dX0_under_26 ?_
      refine vp_callSi (W.runS (As := [.int a3, .int 1, .int 99999]) (rest := []) ⟨hx, hb, hml, hown, hts⟩ (mt_X0_isIn l a3 1 99999) (va_cwS 3 hts (lw_S q344 q345 q45 q346) rfl rfl rfl (by decide +kernel) ⟨Nat.le_of_ble_eq_true rfl, Nat.le_of_ble_eq_true rfl⟩) ⟨fun _ _ _ _ h => h, fun _ _ _ => ⟨rfl, trivial⟩⟩ rfl rfl hl.1 rfl (lv_room (Nat.le_of_ble_eq_true rfl)) dX0_under_28 ⟨Nat.le_of_ble_eq_true rfl, Nat.le_of_ble_eq_true rfl⟩) (fun r_5 hr_5 => ?_)
      subst hr_5
      refine lv_rwi (bi_c (iv_of rfl rfl)) ?_
      refine lv_if_eq (tgt := 44) hx hb dX0_under_31 (by decide) (fun c_6 => ?_) (fun c_6 => ?_)
      · have c_6 : ¬ (iv a3 1 99999) := bi_f c_6
        refine lv_iconst (v := (-1)) hx hb dX0_under_44 (by decide) ?_
        exact W.iret (v := (-1)) hx hb hr (fun t ht hW => ⟨_, rfl, by dsimp only; rw [if_pos c_2, if_pos c_4, if_neg c_6], ht⟩) (fun q hq => by cases hq) dX0_under_45
      · have c_6 : iv a3 1 99999 := bi_t c_6
        have c_6_tn := iv_tn c_6 (by decide)
        refine lv_iload hx hb dX0_under_34 (lv_at hl 4 rfl) ?_
        refine lv_iconst (v := 0) hx hb dX0_under_36 (by decide) ?_
        refine lv_iconst (v := 1) hx hb dX0_under_37 (by decide) ?_
        refine vp_callSi (W.runS (As := [.int a4, .int 0, .int 1]) (rest := []) ⟨hx, hb, hml, hown, hts⟩ (mt_X0_isIn l a4 0 1) (va_cwS 3 hts (lw_S q344 q345 q45 q346) rfl rfl rfl (by decide +kernel) ⟨Nat.le_of_ble_eq_true rfl, Nat.le_of_ble_eq_true rfl⟩) ⟨fun _ _ _ _ h => h, fun _ _ _ => ⟨rfl, trivial⟩⟩ rfl rfl hl.1 rfl (lv_room (Nat.le_of_ble_eq_true rfl)) dX0_under_38 ⟨Nat.le_of_ble_eq_true rfl, Nat.le_of_ble_eq_true rfl⟩) (fun r_7 hr_7 => ?_)
        subst hr_7
        refine lv_rwi (bi_c (ik_of (n := 2) rfl rfl)) ?_
        refine lv_if_ne (tgt := 46) hx hb dX0_under_41 (by decide) (fun c_8 => ?_) (fun c_8 => ?_)
        · have c_8 : ik a4 2 := bi_t c_8
          have c_8_lt := ik_lt c_8
          refine lv_iconst (v := 0) hx hb dX0_under_46 (by decide) ?_
          refine lv_istore (lv' := [(5, .int 0), (0, .ref (ad 0)), (1, .int a1), (2, .int a2), (3, .int a3), (4, .int a4)]) hx hb dX0_under_47 hl (by decide) rfl (fun ls hl => ?_)
          refine lv_bipush (v := (-4)) hx hb dX0_under_49 (by decide) ?_
          refine lv_istore (lv' := [(6, .int (-4)), (5, .int 0), (0, .ref (ad 0)), (1, .int a1), (2, .int a2), (3, .int a3), (4, .int a4)]) hx hb dX0_under_51 hl (by decide) rfl (fun ls hl => ?_)
          refine lv_iconst (v := 1) hx hb dX0_under_53 (by decide) ?_
          refine lv_istore (lv' := [(7, .int 1), (6, .int (-4)), (5, .int 0), (0, .ref (ad 0)), (1, .int a1), (2, .int a2), (3, .int a3), (4, .int a4)]) hx hb dX0_under_54 hl (by decide) rfl (fun ls hl => ?_)
          have lp56 : ∀ (fu : Nat) (i : Nat) (nn : Int32) (fi : Int32) (_ : i + 1 ≤ pw) (_ : (nn, fi) = unF (unO σ nw a1 a2 a3) i) (_ : pw - i < fu) (ls : Array Slot) (_ : lv_has ls 11 [(7, .int (nI (i + 1))), (6, .int fi), (5, .int nn), (0, .ref (ad 0)), (1, .int a1), (2, .int a2), (3, .int a3), (4, .int a4)]), W pp l ee (headSpec (ws_ yX0_under cX0_under 11 (some .int)) ({ frames := 1, cells := 0, slots := 0, locals := 22 })).room ss mm ([.ref (ad 0), .int a1, .int a2, .int a3, .int a4] : List Value).toArray below meth cd ss.heap [] 0 0 (MQ below (vp_Si (fun r : Int32 => r = (if ik a1 nw then (if iv a2 1 99 then (if iv a3 1 99999 then (if ik a4 2 then (if tn a4 = 0 then (unF (unO σ nw a1 a2 a3) (2 ^ nw - 1)).1 else (unF (unO σ nw a1 a2 a3) (2 ^ nw - 1)).2) else -1) else -1) else -1) else -1))) ([.ref (ad 0), .int a1, .int a2, .int a3, .int a4] : List Value).toArray ss 0 0 (fun _ => False)) (F0 mm 56 ls []) := by
            intro fu
            induction fu with
            | zero => intro i nn fi hi hun hfu; exact absurd hfu (Nat.not_lt_zero _)
            | succ fu ih56 =>
              intro i nn fi hi hun hfu ls hl
              refine lv_iload hx hb dX0_under_56 (lv_at hl 0 rfl) ?_
              refine lv_iconst (v := 1) hx hb dX0_under_58 (by decide) ?_
              refine lv_aload_n hx hb dX0_under_59 rfl (lv_at hl 3 rfl) ?_
              refine mg_get hx hb hts in_X0 hown hE hP 0 (xl_n hA (by decide)) rfl rfl 19 rfl (by decide) (hts _ q283) (fun _ h9 => h9) dX0_under_60 ?_
              refine lv_ishl hx hb dX0_under_63 ?_
              refine lv_icmp_ge (tgt := 187) hx hb dX0_under_64 (by decide) (fun c_9 => ?_) (fun c_9 => ?_)
              · have nc_9 : pw ≤ i + 1 := mi_le ((sh1 hnw hnw8).trans (by rw [hpw])) rfl (by omega) (by omega) c_9
                refine lv_iload hx hb dX0_under_187 (lv_at hl 7 rfl) ?_
                refine lv_if_ne (tgt := 197) hx hb dX0_under_189 (by decide) (fun c_10 => ?_) (fun c_10 => ?_)
                · have nc_10 : tn a4 ≠ 0 := mi_ne (ik_eq c_8) rfl (by omega) (by omega) c_10
                  refine lv_iload hx hb dX0_under_197 (lv_at hl 1 rfl) ?_
                  exact W.iret (v := fi) hx hb hr (fun t ht hW => ⟨_, rfl, by dsimp only; rw [if_pos c_2, if_pos c_4, if_pos c_6, if_pos c_8, show 2 ^ nw - 1 = i by rw [← hpw]; omega, ← hun, if_neg nc_10], ht⟩) (fun q hq => by cases hq) dX0_under_199
                · have nc_10 : tn a4 = 0 := mi_eq (ik_eq c_8) rfl (by omega) (by omega) c_10
                  refine lv_iload hx hb dX0_under_192 (lv_at hl 2 rfl) ?_
                  refine lv_goto (tgt := 199) hx hb dX0_under_194 (by decide) ?_
                  exact W.iret (v := nn) hx hb hr (fun t ht hW => ⟨_, rfl, by dsimp only; rw [if_pos c_2, if_pos c_4, if_pos c_6, if_pos c_8, show 2 ^ nw - 1 = i by rw [← hpw]; omega, ← hun, if_pos nc_10], ht⟩) (fun q hq => by cases hq) dX0_under_199
              · have nc_9 : i + 1 < pw := mi_nle ((sh1 hnw hnw8).trans (by rw [hpw])) rfl (by omega) (by omega) c_9
                refine lv_iconst (v := 0) hx hb dX0_under_67 (by decide) ?_
                refine lv_istore (lv' := [(8, .int 0), (7, .int (nI (i + 1))), (6, .int fi), (5, .int nn), (0, .ref (ad 0)), (1, .int a1), (2, .int a2), (3, .int a3), (4, .int a4)]) hx hb dX0_under_68 hl (by decide) rfl (fun ls hl => ?_)
                refine lv_iconst (v := 0) hx hb dX0_under_70 (by decide) ?_
                refine lv_istore (lv' := [(9, .int 0), (8, .int 0), (7, .int (nI (i + 1))), (6, .int fi), (5, .int nn), (0, .ref (ad 0)), (1, .int a1), (2, .int a2), (3, .int a3), (4, .int a4)]) hx hb dX0_under_71 hl (by decide) rfl (fun ls hl => ?_)
                refine lv_iconst (v := 0) hx hb dX0_under_73 (by decide) ?_
                refine lv_istore (lv' := [(10, .int 0), (9, .int 0), (8, .int 0), (7, .int (nI (i + 1))), (6, .int fi), (5, .int nn), (0, .ref (ad 0)), (1, .int a1), (2, .int a2), (3, .int a3), (4, .int a4)]) hx hb dX0_under_74 hl (by decide) rfl (fun ls hl => ?_)
                have lp76 : ∀ (fu : Nat) (k : Nat) (S : Int32) (U : Int32) (_ : k ≤ nw) (_ : S = usm (σ 22) (i + 1) k) (_ : U = usm (σ 23) (i + 1) k) (_ : nw - k < fu) (ls : Array Slot) (_ : lv_has ls 11 [(10, .int (nI k)), (9, .int U), (8, .int S), (7, .int (nI (i + 1))), (6, .int fi), (5, .int nn), (0, .ref (ad 0)), (1, .int a1), (2, .int a2), (3, .int a3), (4, .int a4)]), W pp l ee (headSpec (ws_ yX0_under cX0_under 11 (some .int)) ({ frames := 1, cells := 0, slots := 0, locals := 22 })).room ss mm ([.ref (ad 0), .int a1, .int a2, .int a3, .int a4] : List Value).toArray below meth cd ss.heap [] 0 0 (MQ below (vp_Si (fun r : Int32 => r = (if ik a1 nw then (if iv a2 1 99 then (if iv a3 1 99999 then (if ik a4 2 then (if tn a4 = 0 then (unF (unO σ nw a1 a2 a3) (2 ^ nw - 1)).1 else (unF (unO σ nw a1 a2 a3) (2 ^ nw - 1)).2) else -1) else -1) else -1) else -1))) ([.ref (ad 0), .int a1, .int a2, .int a3, .int a4] : List Value).toArray ss 0 0 (fun _ => False)) (F0 mm 76 ls []) := by
                  intro fu
                  induction fu with
                  | zero => intro k S U hk hSk hUk hfu; exact absurd hfu (Nat.not_lt_zero _)
                  | succ fu ih76 =>
                    intro k S U hk hSk hUk hfu ls hl
                    refine lv_iload hx hb dX0_under_76 (lv_at hl 0 rfl) ?_
                    refine lv_aload_n hx hb dX0_under_78 rfl (lv_at hl 6 rfl) ?_
                    refine mg_get hx hb hts in_X0 hown hE hP 0 (xl_n hA (by decide)) rfl rfl 19 rfl (by decide) (hts _ q283) (fun _ h9 => h9) dX0_under_79 ?_
                    refine lv_icmp_ge (tgt := 143) hx hb dX0_under_82 (by decide) (fun c_11 => ?_) (fun c_11 => ?_)
                    · have nc_11 : nw ≤ k := mi_le hnw rfl (by omega) (by omega) c_11
                      have hkn : k = nw := by omega
                      refine lv_iload hx hb dX0_under_143 (lv_at hl 3 rfl) ?_
                      refine lv_iload_n hx hb dX0_under_145 rfl (lv_at hl 7 rfl) ?_
                      refine vp_callSi (W.runS (As := [.int (nI (i + 1)), .int a1]) (rest := []) ⟨hx, hb, hml, hown, hts⟩ (mt_X0_has l (nI (i + 1)) a1) (va_cwS 2 hts (lw_S q572 q573 q45 q574) rfl rfl rfl (by decide +kernel) ⟨Nat.le_of_ble_eq_true rfl, Nat.le_of_ble_eq_true rfl⟩) ⟨fun _ _ _ _ h => h, fun _ _ _ => ⟨rfl, trivial⟩⟩ rfl rfl hl.1 rfl (lv_room (Nat.le_of_ble_eq_true rfl)) dX0_under_146 ⟨Nat.le_of_ble_eq_true rfl, Nat.le_of_ble_eq_true rfl⟩) (fun r_12 hr_12 => ?_)
                      subst hr_12
                      refine lv_if_eq (tgt := 181) hx hb dX0_under_149 (by decide) (fun c_13 => ?_) (fun c_13 => ?_)
                      · have c_13 : ¬ ((((nI (i + 1)) >>> (a1 &&& 31)) &&& 1) = 1) := bi_f c_13
                        refine lv_iinc (v := (nI (i + 1 + 1))) (lv' := [(7, .int (nI (i + 1 + 1))), (10, .int (nI k)), (9, .int U), (8, .int S), (6, .int fi), (5, .int nn), (0, .ref (ad 0)), (1, .int a1), (2, .int a2), (3, .int a3), (4, .int a4)]) hx hb dX0_under_181 hl (k := 3) rfl (mi_add rfl rfl) (by decide) rfl (fun ls hl => ?_)
                        refine lv_goto (tgt := 56) hx hb dX0_under_184 (by decide) ?_
                        exact ih56  (i + 1) nn fi (by omega) (by rw [unF, ← hun]; dsimp only; rw [if_neg (fun q => c_13 q.1)]) (by omega) ls (lv_sub hl [0, 4, 5, 6, 7, 8, 9, 10] rfl)
                      · have c_13 : (((nI (i + 1)) >>> (a1 &&& 31)) &&& 1) = 1 := bi_t c_13
                        refine lv_iload hx hb dX0_under_152 (lv_at hl 2 rfl) ?_
                        refine lv_iload_n hx hb dX0_under_154 rfl (lv_at hl 9 rfl) ?_
                        refine lv_icmp_ne (tgt := 181) hx hb dX0_under_155 (by decide) (fun c_14 => ?_) (fun c_14 => ?_)
                        · skip
                          refine lv_iinc (v := (nI (i + 1 + 1))) (lv' := [(7, .int (nI (i + 1 + 1))), (10, .int (nI k)), (9, .int U), (8, .int S), (6, .int fi), (5, .int nn), (0, .ref (ad 0)), (1, .int a1), (2, .int a2), (3, .int a3), (4, .int a4)]) hx hb dX0_under_181 hl (k := 3) rfl (mi_add rfl rfl) (by decide) rfl (fun ls hl => ?_)
                          refine lv_goto (tgt := 56) hx hb dX0_under_184 (by decide) ?_
                          exact ih56  (i + 1) nn fi (by omega) (by rw [unF, ← hun]; dsimp only; rw [if_neg (fun q => c_14 (by rw [hSk, hkn]; exact q.2.1))]) (by omega) ls (lv_sub hl [0, 4, 5, 6, 7, 8, 9, 10] rfl)
                        · skip
                          refine lv_iload hx hb dX0_under_158 (lv_at hl 1 rfl) ?_
                          refine lv_iload_n hx hb dX0_under_160 rfl (lv_at hl 8 rfl) ?_
                          refine lv_icmp_ne (tgt := 181) hx hb dX0_under_161 (by decide) (fun c_15 => ?_) (fun c_15 => ?_)
                          · skip
                            refine lv_iinc (v := (nI (i + 1 + 1))) (lv' := [(7, .int (nI (i + 1 + 1))), (10, .int (nI k)), (9, .int U), (8, .int S), (6, .int fi), (5, .int nn), (0, .ref (ad 0)), (1, .int a1), (2, .int a2), (3, .int a3), (4, .int a4)]) hx hb dX0_under_181 hl (k := 3) rfl (mi_add rfl rfl) (by decide) rfl (fun ls hl => ?_)
                            refine lv_goto (tgt := 56) hx hb dX0_under_184 (by decide) ?_
                            exact ih56  (i + 1) nn fi (by omega) (by rw [unF, ← hun]; dsimp only; rw [if_neg (fun q => c_15 (by rw [hUk, hkn]; exact q.2.2))]) (by omega) ls (lv_sub hl [0, 4, 5, 6, 7, 8, 9, 10] rfl)
                          · skip
                            refine lv_iload hx hb dX0_under_164 (lv_at hl 5 rfl) ?_
                            refine lv_if_ne (tgt := 174) hx hb dX0_under_166 (by decide) (fun c_16 => ?_) (fun c_16 => ?_)
                            · skip
                              refine lv_iload hx hb dX0_under_174 (lv_at hl 4 rfl) ?_
                              refine lv_istore (lv' := [(6, .int fi), (10, .int (nI k)), (9, .int U), (8, .int S), (7, .int (nI (i + 1))), (5, .int nn), (0, .ref (ad 0)), (1, .int a1), (2, .int a2), (3, .int a3), (4, .int a4)]) hx hb dX0_under_176 hl (by decide) rfl (fun ls hl => ?_)
                              refine lv_iinc (v := (nn + 1)) (lv' := [(5, .int (nn + 1)), (6, .int fi), (10, .int (nI k)), (9, .int U), (8, .int S), (7, .int (nI (i + 1))), (0, .ref (ad 0)), (1, .int a1), (2, .int a2), (3, .int a3), (4, .int a4)]) hx hb dX0_under_178 hl (k := 5) rfl (rfl) (by decide) rfl (fun ls hl => ?_)
                              refine lv_iinc (v := (nI (i + 1 + 1))) (lv' := [(7, .int (nI (i + 1 + 1))), (5, .int (nn + 1)), (6, .int fi), (10, .int (nI k)), (9, .int U), (8, .int S), (0, .ref (ad 0)), (1, .int a1), (2, .int a2), (3, .int a3), (4, .int a4)]) hx hb dX0_under_181 hl (k := 5) rfl (mi_add rfl rfl) (by decide) rfl (fun ls hl => ?_)
                              refine lv_goto (tgt := 56) hx hb dX0_under_184 (by decide) ?_
                              exact ih56  (i + 1) (nn + 1) fi (by omega) (by rw [unF, ← hun]; dsimp only; rw [hSk, hkn] at c_14; rw [hUk, hkn] at c_15; rw [if_pos ⟨c_13, c_14, c_15⟩, if_neg c_16]) (by omega) ls (lv_sub hl [0, 2, 1, 6, 7, 8, 9, 10] rfl)
                            · skip
                              refine lv_iload hx hb dX0_under_169 (lv_at hl 3 rfl) ?_
                              refine lv_goto (tgt := 176) hx hb dX0_under_171 (by decide) ?_
                              refine lv_istore (lv' := [(6, .int (nI (i + 1))), (10, .int (nI k)), (9, .int U), (8, .int S), (7, .int (nI (i + 1))), (5, .int nn), (0, .ref (ad 0)), (1, .int a1), (2, .int a2), (3, .int a3), (4, .int a4)]) hx hb dX0_under_176 hl (by decide) rfl (fun ls hl => ?_)
                              refine lv_iinc (v := (nn + 1)) (lv' := [(5, .int (nn + 1)), (6, .int (nI (i + 1))), (10, .int (nI k)), (9, .int U), (8, .int S), (7, .int (nI (i + 1))), (0, .ref (ad 0)), (1, .int a1), (2, .int a2), (3, .int a3), (4, .int a4)]) hx hb dX0_under_178 hl (k := 5) rfl (rfl) (by decide) rfl (fun ls hl => ?_)
                              refine lv_iinc (v := (nI (i + 1 + 1))) (lv' := [(7, .int (nI (i + 1 + 1))), (5, .int (nn + 1)), (6, .int (nI (i + 1))), (10, .int (nI k)), (9, .int U), (8, .int S), (0, .ref (ad 0)), (1, .int a1), (2, .int a2), (3, .int a3), (4, .int a4)]) hx hb dX0_under_181 hl (k := 5) rfl (mi_add rfl rfl) (by decide) rfl (fun ls hl => ?_)
                              refine lv_goto (tgt := 56) hx hb dX0_under_184 (by decide) ?_
                              exact ih56  (i + 1) (nn + 1) (nI (i + 1)) (by omega) (by rw [unF, ← hun]; dsimp only; rw [hSk, hkn] at c_14; rw [hUk, hkn] at c_15; rw [if_pos ⟨c_13, c_14, c_15⟩, if_pos c_16]) (by omega) ls (lv_sub hl [0, 2, 1, 6, 7, 8, 9, 10] rfl)
                    · have nc_11 : k < nw := mi_nle hnw rfl (by omega) (by omega) c_11
                      refine lv_iload hx hb dX0_under_85 (lv_at hl 2 rfl) ?_
                      refine lv_iload hx hb dX0_under_87 (lv_at hl 3 rfl) ?_
                      refine lv_iload hx hb dX0_under_89 (lv_at hl 0 rfl) ?_
                      refine vp_callSi (W.runS (As := [.int (nI (i + 1)), .int (nI k)]) (rest := [.int S]) ⟨hx, hb, hml, hown, hts⟩ (mt_X0_has l (nI (i + 1)) (nI k)) (va_cwS 2 hts (lw_S q572 q573 q45 q574) rfl rfl rfl (by decide +kernel) ⟨Nat.le_of_ble_eq_true rfl, Nat.le_of_ble_eq_true rfl⟩) ⟨fun _ _ _ _ h => h, fun _ _ _ => ⟨rfl, trivial⟩⟩ rfl rfl hl.1 rfl (lv_room (Nat.le_of_ble_eq_true rfl)) dX0_under_91 ⟨Nat.le_of_ble_eq_true rfl, Nat.le_of_ble_eq_true rfl⟩) (fun r_17 hr_17 => ?_)
                      subst hr_17
                      refine lv_if_eq (tgt := 107) hx hb dX0_under_94 (by decide) (fun c_18 => ?_) (fun c_18 => ?_)
                      · have c_18 : ¬ ((((nI (i + 1)) >>> ((nI k) &&& 31)) &&& 1) = 1) := bi_f c_18
                        refine lv_iconst (v := 0) hx hb dX0_under_107 (by decide) ?_
                        refine lv_iadd hx hb dX0_under_108 ?_
                        refine lv_istore (lv' := [(8, .int (S + 0)), (10, .int (nI k)), (9, .int U), (7, .int (nI (i + 1))), (6, .int fi), (5, .int nn), (0, .ref (ad 0)), (1, .int a1), (2, .int a2), (3, .int a3), (4, .int a4)]) hx hb dX0_under_109 hl (by decide) rfl (fun ls hl => ?_)
                        refine lv_iload hx hb dX0_under_111 (lv_at hl 2 rfl) ?_
                        refine lv_iload hx hb dX0_under_113 (lv_at hl 3 rfl) ?_
                        refine lv_iload hx hb dX0_under_115 (lv_at hl 1 rfl) ?_
                        refine vp_callSi (W.runS (As := [.int (nI (i + 1)), .int (nI k)]) (rest := [.int U]) ⟨hx, hb, hml, hown, hts⟩ (mt_X0_has l (nI (i + 1)) (nI k)) (va_cwS 2 hts (lw_S q572 q573 q45 q574) rfl rfl rfl (by decide +kernel) ⟨Nat.le_of_ble_eq_true rfl, Nat.le_of_ble_eq_true rfl⟩) ⟨fun _ _ _ _ h => h, fun _ _ _ => ⟨rfl, trivial⟩⟩ rfl rfl hl.1 rfl (lv_room (Nat.le_of_ble_eq_true rfl)) dX0_under_117 ⟨Nat.le_of_ble_eq_true rfl, Nat.le_of_ble_eq_true rfl⟩) (fun r_19 hr_19 => ?_)
                        subst hr_19
                        refine lv_if_eq (tgt := 133) hx hb dX0_under_120 (by decide) (fun c_20 => ?_) (fun c_20 => ?_)
                        · have c_20 : ¬ ((((nI (i + 1)) >>> ((nI k) &&& 31)) &&& 1) = 1) := bi_f c_20
                          refine lv_iconst (v := 0) hx hb dX0_under_133 (by decide) ?_
                          refine lv_iadd hx hb dX0_under_134 ?_
                          refine lv_istore (lv' := [(9, .int (U + 0)), (8, .int (S + 0)), (10, .int (nI k)), (7, .int (nI (i + 1))), (6, .int fi), (5, .int nn), (0, .ref (ad 0)), (1, .int a1), (2, .int a2), (3, .int a3), (4, .int a4)]) hx hb dX0_under_135 hl (by decide) rfl (fun ls hl => ?_)
                          refine lv_iinc (v := (nI (k + 1))) (lv' := [(10, .int (nI (k + 1))), (9, .int (U + 0)), (8, .int (S + 0)), (7, .int (nI (i + 1))), (6, .int fi), (5, .int nn), (0, .ref (ad 0)), (1, .int a1), (2, .int a2), (3, .int a3), (4, .int a4)]) hx hb dX0_under_137 hl (k := 2) rfl (mi_add rfl rfl) (by decide) rfl (fun ls hl => ?_)
                          refine lv_goto (tgt := 76) hx hb dX0_under_140 (by decide) ?_
                          exact ih76  (k + 1) (S + 0) (U + 0) (by omega) (by rw [hSk, usm, if_neg c_18]) (by rw [hUk, usm, if_neg c_18]) (by omega) ls (lv_sub hl [0, 1, 2, 3, 4, 5, 6, 7, 8, 9, 10] rfl)
                        · have c_20 : (((nI (i + 1)) >>> ((nI k) &&& 31)) &&& 1) = 1 := bi_t c_20
                          exact absurd c_20 c_18
                      · have c_18 : (((nI (i + 1)) >>> ((nI k) &&& 31)) &&& 1) = 1 := bi_t c_18
                        refine lv_aload_n hx hb dX0_under_97 rfl (lv_at hl 6 rfl) ?_
                        refine mg_ref hx hb hts in_X0 hown hE hP 0 (xl_n hA (by decide)) rfl rfl 17 rfl (by decide) (hts _ q281) (fun _ h9 => h9) dX0_under_98 ?_
                        refine lv_iload hx hb dX0_under_101 (lv_at hl 0 rfl) ?_
                        refine mg_ild hx hb hE hP 22 (xl_n hA (by decide)) rfl k (by omega) rfl (by decide) dX0_under_103 ?_
                        refine lv_goto (tgt := 108) hx hb dX0_under_104 (by decide) ?_
                        refine lv_iadd hx hb dX0_under_108 ?_
                        refine lv_istore (lv' := [(8, .int (S + σ 22 k)), (10, .int (nI k)), (9, .int U), (7, .int (nI (i + 1))), (6, .int fi), (5, .int nn), (0, .ref (ad 0)), (1, .int a1), (2, .int a2), (3, .int a3), (4, .int a4)]) hx hb dX0_under_109 hl (by decide) rfl (fun ls hl => ?_)
                        refine lv_iload hx hb dX0_under_111 (lv_at hl 2 rfl) ?_
                        refine lv_iload hx hb dX0_under_113 (lv_at hl 3 rfl) ?_
                        refine lv_iload hx hb dX0_under_115 (lv_at hl 1 rfl) ?_
                        refine vp_callSi (W.runS (As := [.int (nI (i + 1)), .int (nI k)]) (rest := [.int U]) ⟨hx, hb, hml, hown, hts⟩ (mt_X0_has l (nI (i + 1)) (nI k)) (va_cwS 2 hts (lw_S q572 q573 q45 q574) rfl rfl rfl (by decide +kernel) ⟨Nat.le_of_ble_eq_true rfl, Nat.le_of_ble_eq_true rfl⟩) ⟨fun _ _ _ _ h => h, fun _ _ _ => ⟨rfl, trivial⟩⟩ rfl rfl hl.1 rfl (lv_room (Nat.le_of_ble_eq_true rfl)) dX0_under_117 ⟨Nat.le_of_ble_eq_true rfl, Nat.le_of_ble_eq_true rfl⟩) (fun r_21 hr_21 => ?_)
                        subst hr_21
                        refine lv_if_eq (tgt := 133) hx hb dX0_under_120 (by decide) (fun c_22 => ?_) (fun c_22 => ?_)
                        · have c_22 : ¬ ((((nI (i + 1)) >>> ((nI k) &&& 31)) &&& 1) = 1) := bi_f c_22
                          exact absurd c_18 c_22
                        · have c_22 : (((nI (i + 1)) >>> ((nI k) &&& 31)) &&& 1) = 1 := bi_t c_22
                          refine lv_aload_n hx hb dX0_under_123 rfl (lv_at hl 6 rfl) ?_
                          refine mg_ref hx hb hts in_X0 hown hE hP 0 (xl_n hA (by decide)) rfl rfl 18 rfl (by decide) (hts _ q282) (fun _ h9 => h9) dX0_under_124 ?_
                          refine lv_iload hx hb dX0_under_127 (lv_at hl 1 rfl) ?_
                          refine mg_ild hx hb hE hP 23 (xl_n hA (by decide)) rfl k (by omega) rfl (by decide) dX0_under_129 ?_
                          refine lv_goto (tgt := 134) hx hb dX0_under_130 (by decide) ?_
                          refine lv_iadd hx hb dX0_under_134 ?_
                          refine lv_istore (lv' := [(9, .int (U + σ 23 k)), (8, .int (S + σ 22 k)), (10, .int (nI k)), (7, .int (nI (i + 1))), (6, .int fi), (5, .int nn), (0, .ref (ad 0)), (1, .int a1), (2, .int a2), (3, .int a3), (4, .int a4)]) hx hb dX0_under_135 hl (by decide) rfl (fun ls hl => ?_)
                          refine lv_iinc (v := (nI (k + 1))) (lv' := [(10, .int (nI (k + 1))), (9, .int (U + σ 23 k)), (8, .int (S + σ 22 k)), (7, .int (nI (i + 1))), (6, .int fi), (5, .int nn), (0, .ref (ad 0)), (1, .int a1), (2, .int a2), (3, .int a3), (4, .int a4)]) hx hb dX0_under_137 hl (k := 2) rfl (mi_add rfl rfl) (by decide) rfl (fun ls hl => ?_)
                          refine lv_goto (tgt := 76) hx hb dX0_under_140 (by decide) ?_
                          exact ih76  (k + 1) (S + σ 22 k) (U + σ 23 k) (by omega) (by rw [hSk, usm, if_pos c_18]) (by rw [hUk, usm, if_pos c_18]) (by omega) ls (lv_sub hl [0, 1, 2, 3, 4, 5, 6, 7, 8, 9, 10] rfl)
                exact lp76 (nw - 0 + 1) 0 0 0 (by omega) rfl rfl (by omega) ls (lv_sub hl [0, 1, 2, 3, 4, 5, 6, 7, 8, 9, 10] rfl)
          exact lp56 (pw - 0 + 1) 0 0 (-4) (by omega) rfl (by omega) ls (lv_sub hl [0, 1, 2, 3, 4, 5, 6, 7] rfl)
        · have c_8 : ¬ (ik a4 2) := bi_f c_8
          refine lv_iconst (v := (-1)) hx hb dX0_under_44 (by decide) ?_
          exact W.iret (v := (-1)) hx hb hr (fun t ht hW => ⟨_, rfl, by dsimp only; rw [if_pos c_2, if_pos c_4, if_pos c_6, if_neg c_8], ht⟩) (fun q hq => by cases hq) dX0_under_45
set_option maxHeartbeats 4000000 in
set_option maxRecDepth 100000 in
theorem mt_X0_type (l : Launch) (D : va_G) (dA : Nat → ClassId) (rr : Nat → Option Nat) (xs : Nat → mSh) (ad : Nat → Nat) (N : Nat) (hA : xA ad N) (σ : mMem) (w : Int64) (a : Int32) (tp : Nat) (htp : σ 0 7 = nI tp) (htp8 : tp ≤ 80) : Met l yX0_type (ws_ yX0_type cX0_type 5 (some .int)) ({ frames := 1, cells := 0, slots := 0, locals := 22 }) (va_Pc [.ref (ad 0), .long w, .int a] (mPre D dA (shX rr xs) ad N σ)) (va_Qi (fun (r : Int32) (u : mMem) => (if iv a 1 8 then (if ∀ i, i < tn a → okb w i then (if tp + tn a ≤ 80 then (r = nI (tp + tn a) ∧ u = tpF σ w tp (tn a) (tn a)) else (r = -3 ∧ u = σ)) else (r = -1 ∧ u = σ)) else (r = -1 ∧ u = σ))) (mB D dA (shX rr xs) ad N) (mAd ad N)) 0 0 (mAd ad N) := by
  refine Met.ofW (cc := cX0_type) (maxL := 5) (ret := (some .int)) (by decide) rfl ?_
  intro pp ee ss mm args below meth cd s₁ B hml hv
  obtain ⟨rfl, hP, hE⟩ := hv
  have hx := B.exec
  have hb := B.bytes
  have hr := B.returns
  have hts := atoms_spec (ws := ws_ yX0_type cX0_type 5 (some .int)) B.pre
  have hts : ∀ w ∈ lw_all, w.before _ ss = true := fun w h => hts w (List.mem_cons_of_mem _ h)
  have hown : ss.vm.findClass RX0 = some mm.cls := findClass_of_methodNamed B.named
  have hlocks := B.notSynchronized
  have hD := hA.2.self
  have hS : va_S (mAd ad N) ss.heap ss.heap [] := va_S.rf
  have hNN := hA.1
  have hl := lv_entry ([.ref (ad 0), .long w, .int a]) (n := 5) (Nat.le_of_ble_eq_true rfl)
  rw [lg_entry_eq]
  generalize (lg_sl ([.ref (ad 0), .long w, .int a]) ++ List.replicate (5 - (lg_sl ([.ref (ad 0), .long w, .int a])).length) Slot.unset).toArray = ls at hl ⊢
  have hl : lv_has ls 5 [(0, .ref (ad 0)), (1, .long w), (3, .int a)] := hl
  refine lv_iload_n hx hb dX0_type_0 rfl (lv_at hl 2 rfl) ?_
  refine lv_iconst (v := 1) hx hb dX0_type_1 (by decide) ?_
  refine lv_bipush (v := 8) hx hb dX0_type_2 (by decide) ?_
  refine vp_callSi (W.runS (As := [.int a, .int 1, .int 8]) (rest := []) ⟨hx, hb, hml, hown, hts⟩ (mt_X0_isIn l a 1 8) (va_cwS 3 hts (lw_S q344 q345 q45 q346) rfl rfl rfl (by decide +kernel) ⟨Nat.le_of_ble_eq_true rfl, Nat.le_of_ble_eq_true rfl⟩) ⟨fun _ _ _ _ h => h, fun _ _ _ => ⟨rfl, trivial⟩⟩ rfl rfl hl.1 rfl (lv_room (Nat.le_of_ble_eq_true rfl)) dX0_type_4 ⟨Nat.le_of_ble_eq_true rfl, Nat.le_of_ble_eq_true rfl⟩) (fun r_1 hr_1 => ?_)
  subst hr_1
  refine lv_rwi (bi_c (iv_of rfl rfl)) ?_
  refine lv_if_ne (tgt := 12) hx hb dX0_type_7 (by decide) (fun c_2 => ?_) (fun c_2 => ?_)
  · have c_2 : iv a 1 8 := bi_t c_2
    have c_2_tn := iv_tn c_2 (by decide)
    refine lv_iload_n hx hb dX0_type_12 rfl (lv_at hl 2 rfl) ?_
    refine lv_iconst (v := 1) hx hb dX0_type_13 (by decide) ?_
    refine lv_isub hx hb dX0_type_14 ?_
    refine lv_rwi (mi_sub (a := tn a) (b := 1) (iv_eq c_2 (by decide)) rfl (by omega)) ?_
    refine lv_istore (lv' := [(4, .int (nI ((tn a) - 1))), (0, .ref (ad 0)), (1, .long w), (3, .int a)]) hx hb dX0_type_15 hl (by decide) rfl (fun ls hl => ?_)
    have lp17 : ∀ (fu : Nat) (j : Nat) (_ : j ≤ tn a) (_ : ∀ i, j ≤ i → i < tn a → okb w i) (_ : j < fu) (ls : Array Slot) (_ : lv_has ls 5 [(4, .int (nI j - 1)), (0, .ref (ad 0)), (1, .long w), (3, .int a)]), W pp l ee (headSpec (ws_ yX0_type cX0_type 5 (some .int)) ({ frames := 1, cells := 0, slots := 0, locals := 22 })).room ss mm ([.ref (ad 0), .long w, .int a] : List Value).toArray below meth cd ss.heap [] 0 0 (MQ below (va_Qi (fun (r : Int32) (u : mMem) => (if iv a 1 8 then (if ∀ i, i < tn a → okb w i then (if tp + tn a ≤ 80 then (r = nI (tp + tn a) ∧ u = tpF σ w tp (tn a) (tn a)) else (r = -3 ∧ u = σ)) else (r = -1 ∧ u = σ)) else (r = -1 ∧ u = σ))) (mB D dA (shX rr xs) ad N) (mAd ad N)) ([.ref (ad 0), .long w, .int a] : List Value).toArray ss 0 0 (mAd ad N)) (F0 mm 17 ls []) := by
      intro fu
      induction fu with
      | zero => intro j hj hall hfu; exact absurd hfu (Nat.not_lt_zero _)
      | succ fu ih17 =>
        intro j hj hall hfu ls hl
        refine lv_iload hx hb dX0_type_17 (lv_at hl 0 rfl) ?_
        refine lv_if_lt (tgt := 52) hx hb dX0_type_19 (by decide) (fun c_3 => ?_) (fun c_3 => ?_)
        · skip
          have hj0 : j = 0 := m1_neg (by omega) c_3
          refine lv_aload_n hx hb dX0_type_52 rfl (lv_at hl 1 rfl) ?_
          refine mg_get hx hb hts in_X0 hown hE hP 0 (xl_n hA (by decide)) rfl rfl 7 rfl (by decide) (hts _ q271) (fun _ h9 => h9) dX0_type_53 ?_
          refine lv_iload_n hx hb dX0_type_56 rfl (lv_at hl 3 rfl) ?_
          refine lv_iadd hx hb dX0_type_57 ?_
          refine lv_bipush (v := 80) hx hb dX0_type_58 (by decide) ?_
          refine lv_icmp_le (tgt := 66) hx hb dX0_type_60 (by decide) (fun c_4 => ?_) (fun c_4 => ?_)
          · have nc_4 : tp + tn a ≤ 80 := mi_le (mi_add htp (iv_eq c_2 (by decide))) rfl (by omega) (by omega) c_4
            refine lv_iload_n hx hb dX0_type_66 rfl (lv_at hl 3 rfl) ?_
            refine lv_iconst (v := 1) hx hb dX0_type_67 (by decide) ?_
            refine lv_isub hx hb dX0_type_68 ?_
            refine lv_rwi (mi_sub (a := tn a) (b := 1) (iv_eq c_2 (by decide)) rfl (by omega)) ?_
            refine lv_istore (lv' := [(4, .int (nI ((tn a) - 1))), (0, .ref (ad 0)), (1, .long w), (3, .int a)]) hx hb dX0_type_69 hl (by decide) rfl (fun ls hl => ?_)
            have lp71 : ∀ (fu : Nat) (c : Nat) (_ : c ≤ tn a) (_ : tn a - c < fu) (H : Heap) (locs : List Loc) (_ : va_P D xCl (mW dA (shX rr xs) ad N (tpF σ w tp (tn a) c)) H) (_ : va_S (mAd ad N) ss.heap H locs) (ls : Array Slot) (_ : lv_has ls 5 [(4, .int (nI (tn a - c) - 1)), (0, .ref (ad 0)), (1, .long w), (3, .int a)]), W pp l ee (headSpec (ws_ yX0_type cX0_type 5 (some .int)) ({ frames := 1, cells := 0, slots := 0, locals := 22 })).room ss mm ([.ref (ad 0), .long w, .int a] : List Value).toArray below meth cd H locs 0 0 (MQ below (va_Qi (fun (r : Int32) (u : mMem) => (if iv a 1 8 then (if ∀ i, i < tn a → okb w i then (if tp + tn a ≤ 80 then (r = nI (tp + tn a) ∧ u = tpF σ w tp (tn a) (tn a)) else (r = -3 ∧ u = σ)) else (r = -1 ∧ u = σ)) else (r = -1 ∧ u = σ))) (mB D dA (shX rr xs) ad N) (mAd ad N)) ([.ref (ad 0), .long w, .int a] : List Value).toArray ss 0 0 (mAd ad N)) (F0 mm 71 ls []) := by
              intro fu
              induction fu with
              | zero => intro c hc hfu; exact absurd hfu (Nat.not_lt_zero _)
              | succ fu ih71 =>
                intro c hc hfu H locs hP hS ls hl
                refine lv_iload hx hb dX0_type_71 (lv_at hl 0 rfl) ?_
                refine lv_if_lt (tgt := 110) hx hb dX0_type_73 (by decide) (fun c_5 => ?_) (fun c_5 => ?_)
                · skip
                  have hce : tn a - c = 0 := m1_neg (by omega) c_5
                  refine lv_aload_n hx hb dX0_type_110 rfl (lv_at hl 1 rfl) ?_
                  refine mg_get hx hb hts in_X0 hown hE hP 0 (xl_n hA (by decide)) rfl rfl 7 rfl (by decide) (hts _ q271) (fun _ h9 => h9) dX0_type_111 ?_
                  exact W.iret (v := (tpF σ w tp (tn a) c) 0 7) hx hb hr (fun t ht hW => ⟨⟨_, _, rfl, by dsimp only; rw [if_pos c_2, if_pos (fun i hi => hall i (by omega) hi), if_pos (by omega)]; exact ⟨by rw [tpF_7 htp c, show c = tn a by omega], by rw [show c = tn a by omega]⟩, mB.of ht hP⟩, hS.F ht⟩) hS.2.2 dX0_type_114
                · skip
                  have hc0 : 0 < tn a - c := m1_pos c_5
                  refine lv_aload_n hx hb dX0_type_76 rfl (lv_at hl 1 rfl) ?_
                  refine mg_ref hx hb hts in_X0 hown hE hP 0 (xl_n hA (by decide)) rfl rfl 6 rfl (by decide) (hts _ q270) (fun _ h9 => h9) dX0_type_77 ?_
                  refine lv_aload_n hx hb dX0_type_80 rfl (lv_at hl 1 rfl) ?_
                  refine mg_get hx hb hts in_X0 hown hE hP 0 (xl_n hA (by decide)) rfl rfl 7 rfl (by decide) (hts _ q271) (fun _ h9 => h9) dX0_type_81 ?_
                  refine lv_lload_n hx hb dX0_type_84 rfl (lv_at hl 2 rfl) ?_
                  refine lv_bipush (v := 8) hx hb dX0_type_85 (by decide) ?_
                  refine lv_iload hx hb dX0_type_87 (lv_at hl 0 rfl) ?_
                  refine lv_imul hx hb dX0_type_89 ?_
                  refine lv_rwi (mi_mul rfl (mi_sub (a := tn a - c) (b := 1) rfl rfl (by omega))) ?_
                  refine lv_lshr (v := (w >>> (((nI (8 * (tn a - c - 1))) : Int32).toInt64 &&& 63))) hx hb dX0_type_90 rfl ?_
                  refine lv_l2i (v := (w >>> (((nI (8 * (tn a - c - 1))) : Int32).toInt64 &&& 63)).toInt32) hx hb dX0_type_91 rfl ?_
                  refine lv_i2b (v := ((w >>> (((nI (8 * (tn a - c - 1))) : Int32).toInt64 &&& 63)).toInt32).toInt8.toInt32) hx hb dX0_type_92 rfl ?_
                  refine mg_bst (v := ((w >>> (((nI (8 * (tn a - c - 1))) : Int32).toInt64 &&& 63)).toInt32).toInt8.toInt32) hx hb hE hD hP hS 18 (xl_n hA (by decide)) rfl (tp + c) (by omega) (tpF_7 htp c) (by decide) (pk_vb _) dX0_type_93 (fun H locs hP hS => ?_)
                  refine lv_aload_n hx hb dX0_type_94 rfl (lv_at hl 1 rfl) ?_
                  refine lv_dup hx hb dX0_type_95 rfl ?_
                  refine mg_get hx hb hts in_X0 hown hE hP 0 (xl_n hA (by decide)) rfl rfl 7 rfl (by decide) (hts _ q271) (fun _ h9 => h9) dX0_type_96 ?_
                  refine lv_rwi (mup_ne1 (by omega)) ?_
                  refine lv_iconst (v := 1) hx hb dX0_type_99 (by decide) ?_
                  refine lv_iadd hx hb dX0_type_100 ?_
                  refine lv_rwi (mi_add (tpF_7 htp c) rfl) ?_
                  refine mg_put (v := (nI (tp + c + 1))) (ty := .int) hx hb hts in_X0 tyX0 tyX0_ok nmX0 hown hE hD hP hS 0 (xl_n hA (by decide)) rfl rfl 7 rfl (by decide) (hts _ q271) (fun _ h9 => h9) rfl (by decide +kernel) rfl rfl dX0_type_101 (fun H locs hP hS => ?_)
                  refine lv_iinc (v := (nI (tn a - (c + 1)) - 1)) (lv' := [(4, .int (nI (tn a - (c + 1)) - 1)), (0, .ref (ad 0)), (1, .long w), (3, .int a)]) hx hb dX0_type_104 hl (k := 0) rfl (dec2 (by omega)) (by decide) rfl (fun ls hl => ?_)
                  refine lv_goto (tgt := 71) hx hb dX0_type_107 (by decide) ?_
                  exact ih71  (c + 1) (by omega) (by omega) _ _ (m_eq (rfl) hP) hS ls (lv_sub hl [0, 1, 2, 3] rfl)
            exact lp71 (tn a - 0 + 1) 0 (by omega) (by omega) _ _ (m_eq (rfl) hP) hS ls (lv_sub hl [0, 1, 2, 3] (by rw [Nat.sub_zero, show nI (tn a) - 1 = nI (tn a - 1) from mi_sub (b := 1) rfl rfl (by omega)]; rfl))
          · have nc_4 : 80 < tp + tn a := mi_nle (mi_add htp (iv_eq c_2 (by decide))) rfl (by omega) (by omega) c_4
            refine lv_bipush (v := (-3)) hx hb dX0_type_63 (by decide) ?_
            exact W.iret (v := (-3)) hx hb hr (fun t ht hW => ⟨⟨_, _, rfl, by dsimp only; rw [if_pos c_2, if_pos (fun i hi => hall i (by omega) hi), if_neg (by omega)]; exact ⟨rfl, rfl⟩, mB.of ht hP⟩, hS.F ht⟩) hS.2.2 dX0_type_65
        · skip
          have hj0 : 0 < j := m1_pos c_3
          refine lv_lload_n hx hb dX0_type_22 rfl (lv_at hl 2 rfl) ?_
          refine lv_bipush (v := 8) hx hb dX0_type_23 (by decide) ?_
          refine lv_iload hx hb dX0_type_25 (lv_at hl 0 rfl) ?_
          refine lv_imul hx hb dX0_type_27 ?_
          refine lv_rwi (mi_mul rfl (mi_sub (a := j) (b := 1) rfl rfl (by omega))) ?_
          refine lv_lshr (v := (w >>> (((nI (8 * (j - 1))) : Int32).toInt64 &&& 63))) hx hb dX0_type_28 rfl ?_
          refine lv_ldc2 hx hb hown (hts _ q409) dX0_type_29 ?_
          refine lv_land hx hb dX0_type_32 ?_
          refine lv_l2i (v := ((w >>> (((nI (8 * (j - 1))) : Int32).toInt64 &&& 63)) &&& 255).toInt32) hx hb dX0_type_33 rfl ?_
          refine lv_bipush (v := 32) hx hb dX0_type_34 (by decide) ?_
          refine lv_bipush (v := 126) hx hb dX0_type_36 (by decide) ?_
          refine vp_callSi (W.runS (As := [.int (((w >>> (((nI (8 * (j - 1))) : Int32).toInt64 &&& 63)) &&& 255).toInt32), .int 32, .int 126]) (rest := []) ⟨hx, hb, hml, hown, hts⟩ (mt_X0_isIn l (((w >>> (((nI (8 * (j - 1))) : Int32).toInt64 &&& 63)) &&& 255).toInt32) 32 126) (va_cwS 3 hts (lw_S q344 q345 q45 q346) rfl rfl rfl (by decide +kernel) ⟨Nat.le_of_ble_eq_true rfl, Nat.le_of_ble_eq_true rfl⟩) ⟨fun _ _ _ _ h => h, fun _ _ _ => ⟨rfl, trivial⟩⟩ rfl rfl hl.1 rfl (lv_room (Nat.le_of_ble_eq_true rfl)) dX0_type_38 ⟨Nat.le_of_ble_eq_true rfl, Nat.le_of_ble_eq_true rfl⟩) (fun r_6 hr_6 => ?_)
          subst hr_6
          refine lv_rwi (bi_c (iv_of rfl rfl)) ?_
          refine lv_if_ne (tgt := 46) hx hb dX0_type_41 (by decide) (fun c_7 => ?_) (fun c_7 => ?_)
          · have c_7 : iv (((w >>> (((nI (8 * (j - 1))) : Int32).toInt64 &&& 63)) &&& 255).toInt32) 32 126 := bi_t c_7
            refine lv_iinc (v := (nI (j - 1) - 1)) (lv' := [(4, .int (nI (j - 1) - 1)), (0, .ref (ad 0)), (1, .long w), (3, .int a)]) hx hb dX0_type_46 hl (k := 0) rfl (dec1 (by omega)) (by decide) rfl (fun ls hl => ?_)
            refine lv_goto (tgt := 17) hx hb dX0_type_49 (by decide) ?_
            exact ih17  (j - 1) (by omega) (okb_step hj0 hall c_7) (by omega) ls (lv_sub hl [0, 1, 2, 3] rfl)
          · have c_7 : ¬ (iv (((w >>> (((nI (8 * (j - 1))) : Int32).toInt64 &&& 63)) &&& 255).toInt32) 32 126) := bi_f c_7
            refine lv_iconst (v := (-1)) hx hb dX0_type_44 (by decide) ?_
            exact W.iret (v := (-1)) hx hb hr (fun t ht hW => ⟨⟨_, _, rfl, by dsimp only; rw [if_pos c_2, if_neg (fun q => c_7 (q (j - 1) (by omega)))]; exact ⟨rfl, rfl⟩, mB.of ht hP⟩, hS.F ht⟩) hS.2.2 dX0_type_45
    exact lp17 (tn a + 1) (tn a) (by omega) (fun i h1 h2 => by omega) (by omega) ls (lv_sub hl [0, 1, 2, 3] (by rw [show nI (tn a) - 1 = nI (tn a - 1) from mi_sub (b := 1) rfl rfl (by omega)]; rfl))
  · have c_2 : ¬ (iv a 1 8) := bi_f c_2
    refine lv_iconst (v := (-1)) hx hb dX0_type_10 (by decide) ?_
    exact W.iret (v := (-1)) hx hb hr (fun t ht hW => ⟨⟨_, _, rfl, by dsimp only; rw [if_neg c_2]; exact ⟨rfl, rfl⟩, mB.of ht hP⟩, hS.F ht⟩) hS.2.2 dX0_type_11
set_option maxHeartbeats 4000000 in
set_option maxRecDepth 100000 in
theorem mt_X0_nextByte (l : Launch) (D : va_G) (dA : Nat → ClassId) (rr : Nat → Option Nat) (xs : Nat → mSh) (ad : Nat → Nat) (N : Nat) (hA : xA ad N) (σ : mMem) (tp : Nat) (htp : σ 0 7 = nI tp) (htp8 : tp ≤ 80) (a0 : Nat) (ha0 : σ 0 8 = nI a0) (ha8 : a0 ≤ tp) : Met l yX0_nextByte (ws_ yX0_nextByte cX0_nextByte 1 (some .int)) ({ frames := 0, cells := 0, slots := 0, locals := 0 }) (va_Pc [.ref (ad 0)] (mPre D dA (shX rr xs) ad N σ)) (va_Qi (fun (r : Int32) (u : mMem) => r = nxB (σ 18) tp a0 ∧ u = mup σ 0 8 (nI (skp (σ 18) tp (tp - a0) a0))) (mB D dA (shX rr xs) ad N) (mAd ad N)) 0 0 (mAd ad N) := by
  refine Met.ofW (cc := cX0_nextByte) (maxL := 1) (ret := (some .int)) (by decide) rfl ?_
  intro pp ee ss mm args below meth cd s₁ B hml hv
  obtain ⟨rfl, hP, hE⟩ := hv
  have hx := B.exec
  have hb := B.bytes
  have hr := B.returns
  have hts := atoms_spec (ws := ws_ yX0_nextByte cX0_nextByte 1 (some .int)) B.pre
  have hts : ∀ w ∈ lw_all, w.before _ ss = true := fun w h => hts w (List.mem_cons_of_mem _ h)
  have hown : ss.vm.findClass RX0 = some mm.cls := findClass_of_methodNamed B.named
  have hlocks := B.notSynchronized
  have hD := hA.2.self
  have hS : va_S (mAd ad N) ss.heap ss.heap [] := va_S.rf
  have hNN := hA.1
  have hl := lv_entry ([.ref (ad 0)]) (n := 1) (Nat.le_of_ble_eq_true rfl)
  rw [lg_entry_eq]
  generalize (lg_sl ([.ref (ad 0)]) ++ List.replicate (1 - (lg_sl ([.ref (ad 0)])).length) Slot.unset).toArray = ls at hl ⊢
  have hl : lv_has ls 1 [(0, .ref (ad 0))] := hl
  have lp0 : ∀ (fu : Nat) (b : Nat) (_ : b ≤ tp) (_ : skp (σ 18) tp (tp - a0) a0 = skp (σ 18) tp (tp - b) b) (_ : tp - b < fu) (H : Heap) (locs : List Loc) (_ : va_P D xCl (mW dA (shX rr xs) ad N (mup σ 0 8 (nI b))) H) (_ : va_S (mAd ad N) ss.heap H locs) (ls : Array Slot) (_ : lv_has ls 1 [(0, .ref (ad 0))]), W pp l ee (headSpec (ws_ yX0_nextByte cX0_nextByte 1 (some .int)) ({ frames := 0, cells := 0, slots := 0, locals := 0 })).room ss mm ([.ref (ad 0)] : List Value).toArray below meth cd H locs 0 0 (MQ below (va_Qi (fun (r : Int32) (u : mMem) => r = nxB (σ 18) tp a0 ∧ u = mup σ 0 8 (nI (skp (σ 18) tp (tp - a0) a0))) (mB D dA (shX rr xs) ad N) (mAd ad N)) ([.ref (ad 0)] : List Value).toArray ss 0 0 (mAd ad N)) (F0 mm 0 ls []) := by
    intro fu
    induction fu with
    | zero => intro b hb0 hsk hfu; exact absurd hfu (Nat.not_lt_zero _)
    | succ fu ih0 =>
      intro b hb0 hsk hfu H locs hP hS ls hl
      refine lv_aload_n hx hb dX0_nextByte_0 rfl (lv_at hl 0 rfl) ?_
      refine mg_get hx hb hts in_X0 hown hE hP 0 (xl_n hA (by decide)) rfl rfl 8 rfl (by decide) (hts _ q272) (fun _ h9 => h9) dX0_nextByte_1 ?_
      refine lv_rwi (mup_self _ _ _ _) ?_
      refine lv_aload_n hx hb dX0_nextByte_4 rfl (lv_at hl 0 rfl) ?_
      refine mg_get hx hb hts in_X0 hown hE hP 0 (xl_n hA (by decide)) rfl rfl 7 rfl (by decide) (hts _ q271) (fun _ h9 => h9) dX0_nextByte_5 ?_
      refine lv_rwi (mup_ne2 (by omega)) ?_
      refine lv_icmp_ge (tgt := 38) hx hb dX0_nextByte_8 (by decide) (fun c_1 => ?_) (fun c_1 => ?_)
      · have nc_1 : tp ≤ b := mi_le htp rfl (by omega) (by omega) c_1
        refine lv_aload_n hx hb dX0_nextByte_38 rfl (lv_at hl 0 rfl) ?_
        refine mg_get hx hb hts in_X0 hown hE hP 0 (xl_n hA (by decide)) rfl rfl 8 rfl (by decide) (hts _ q272) (fun _ h9 => h9) dX0_nextByte_39 ?_
        refine lv_rwi (mup_self _ _ _ _) ?_
        refine lv_aload_n hx hb dX0_nextByte_42 rfl (lv_at hl 0 rfl) ?_
        refine mg_get hx hb hts in_X0 hown hE hP 0 (xl_n hA (by decide)) rfl rfl 7 rfl (by decide) (hts _ q271) (fun _ h9 => h9) dX0_nextByte_43 ?_
        refine lv_rwi (mup_ne2 (by omega)) ?_
        refine lv_icmp_ge (tgt := 61) hx hb dX0_nextByte_46 (by decide) (fun c_2 => ?_) (fun c_2 => ?_)
        · have nc_2 : tp ≤ b := mi_le htp rfl (by omega) (by omega) c_2
          refine lv_iconst (v := (-1)) hx hb dX0_nextByte_61 (by decide) ?_
          have hse : skp (σ 18) tp (tp - a0) a0 = b := by rw [hsk, show tp - b = 0 by omega]; rfl
          exact W.iret (v := (-1)) hx hb hr (fun t ht hW => ⟨⟨_, _, rfl, ⟨by rw [nxB, hse, if_neg (by omega)], by rw [hse]⟩, mB.of ht hP⟩, hS.F ht⟩) hS.2.2 dX0_nextByte_62
        · have nc_2 : b < tp := mi_nle htp rfl (by omega) (by omega) c_2
          exact absurd c_1 c_2
      · have nc_1 : b < tp := mi_nle htp rfl (by omega) (by omega) c_1
        refine lv_aload_n hx hb dX0_nextByte_11 rfl (lv_at hl 0 rfl) ?_
        refine mg_ref hx hb hts in_X0 hown hE hP 0 (xl_n hA (by decide)) rfl rfl 6 rfl (by decide) (hts _ q270) (fun _ h9 => h9) dX0_nextByte_12 ?_
        refine lv_aload_n hx hb dX0_nextByte_15 rfl (lv_at hl 0 rfl) ?_
        refine mg_get hx hb hts in_X0 hown hE hP 0 (xl_n hA (by decide)) rfl rfl 8 rfl (by decide) (hts _ q272) (fun _ h9 => h9) dX0_nextByte_16 ?_
        refine lv_rwi (mup_self _ _ _ _) ?_
        refine mg_bld hx hb hE hP 18 (xl_n hA (by decide)) rfl b (by omega) rfl (by decide) dX0_nextByte_19 ?_
        refine lv_rwi (mup_ne1 (by omega)) ?_
        refine lv_bipush (v := 32) hx hb dX0_nextByte_20 (by decide) ?_
        refine lv_icmp_ne (tgt := 38) hx hb dX0_nextByte_22 (by decide) (fun c_3 => ?_) (fun c_3 => ?_)
        · skip
          refine lv_aload_n hx hb dX0_nextByte_38 rfl (lv_at hl 0 rfl) ?_
          refine mg_get hx hb hts in_X0 hown hE hP 0 (xl_n hA (by decide)) rfl rfl 8 rfl (by decide) (hts _ q272) (fun _ h9 => h9) dX0_nextByte_39 ?_
          refine lv_rwi (mup_self _ _ _ _) ?_
          refine lv_aload_n hx hb dX0_nextByte_42 rfl (lv_at hl 0 rfl) ?_
          refine mg_get hx hb hts in_X0 hown hE hP 0 (xl_n hA (by decide)) rfl rfl 7 rfl (by decide) (hts _ q271) (fun _ h9 => h9) dX0_nextByte_43 ?_
          refine lv_rwi (mup_ne2 (by omega)) ?_
          refine lv_icmp_ge (tgt := 61) hx hb dX0_nextByte_46 (by decide) (fun c_4 => ?_) (fun c_4 => ?_)
          · have nc_4 : tp ≤ b := mi_le htp rfl (by omega) (by omega) c_4
            exact absurd c_4 c_1
          · have nc_4 : b < tp := mi_nle htp rfl (by omega) (by omega) c_4
            refine lv_aload_n hx hb dX0_nextByte_49 rfl (lv_at hl 0 rfl) ?_
            refine mg_ref hx hb hts in_X0 hown hE hP 0 (xl_n hA (by decide)) rfl rfl 6 rfl (by decide) (hts _ q270) (fun _ h9 => h9) dX0_nextByte_50 ?_
            refine lv_aload_n hx hb dX0_nextByte_53 rfl (lv_at hl 0 rfl) ?_
            refine mg_get hx hb hts in_X0 hown hE hP 0 (xl_n hA (by decide)) rfl rfl 8 rfl (by decide) (hts _ q272) (fun _ h9 => h9) dX0_nextByte_54 ?_
            refine lv_rwi (mup_self _ _ _ _) ?_
            refine mg_bld hx hb hE hP 18 (xl_n hA (by decide)) rfl b (by omega) rfl (by decide) dX0_nextByte_57 ?_
            refine lv_rwi (mup_ne1 (by omega)) ?_
            refine lv_goto (tgt := 62) hx hb dX0_nextByte_58 (by decide) ?_
            have hse : skp (σ 18) tp (tp - a0) a0 = b := by rw [hsk, show tp - b = (tp - b - 1) + 1 by omega, skp, if_neg (fun q => c_3 q.2)]
            exact W.iret (v := σ 18 b) hx hb hr (fun t ht hW => ⟨⟨_, _, rfl, ⟨by rw [nxB, hse, if_pos (by omega)], by rw [hse]⟩, mB.of ht hP⟩, hS.F ht⟩) hS.2.2 dX0_nextByte_62
        · skip
          refine lv_aload_n hx hb dX0_nextByte_25 rfl (lv_at hl 0 rfl) ?_
          refine lv_dup hx hb dX0_nextByte_26 rfl ?_
          refine mg_get hx hb hts in_X0 hown hE hP 0 (xl_n hA (by decide)) rfl rfl 8 rfl (by decide) (hts _ q272) (fun _ h9 => h9) dX0_nextByte_27 ?_
          refine lv_rwi (mup_self _ _ _ _) ?_
          refine lv_iconst (v := 1) hx hb dX0_nextByte_30 (by decide) ?_
          refine lv_iadd hx hb dX0_nextByte_31 ?_
          refine lv_rwi (mi_add rfl rfl) ?_
          refine mg_put (v := (nI (b + 1))) (ty := .int) hx hb hts in_X0 tyX0 tyX0_ok nmX0 hown hE hD hP hS 0 (xl_n hA (by decide)) rfl rfl 8 rfl (by decide) (hts _ q272) (fun _ h9 => h9) rfl (by decide +kernel) rfl rfl dX0_nextByte_32 (fun H locs hP hS => ?_)
          refine lv_goto (tgt := 0) hx hb dX0_nextByte_35 (by decide) ?_
          exact ih0  (b + 1) (by omega) (by rw [hsk, show tp - b = (tp - (b + 1)) + 1 by omega, skp, if_pos ⟨by omega, c_3⟩]) (by omega) _ _ (m_eq (mup_mup _ _ _ _ _) hP) hS ls (lv_sub hl [0] rfl)
  exact lp0 (tp - a0 + 1) a0 (by omega) rfl (by omega) _ _ (m_eq ((mup_id ha0).symm) hP) hS ls (lv_sub hl [0] rfl)
