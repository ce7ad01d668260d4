theorem lt_361 {x : Int32} (h : ¬ 360 < x) : x < 361 := by
  rw [i_lt] at h ⊢
  have e1 : (360 : Int32).toInt = 360 := rfl
  have e2 : (361 : Int32).toInt = 361 := rfl
  omega
theorem stF_ne {σ : mMem} {b k i j : Nat} (h : i ≠ 12) : stF σ b k i j = σ i j := by
  induction k with
  | zero => rfl
  | succ k ih => rw [stF, mup_ne1 h, ih]
theorem stF_at {σ : mMem} {b k j : Nat} (h : j < k) : stF σ b k 12 j = σ 1 (b + j) := by
  induction k with
  | zero => omega
  | succ k ih =>
    rw [stF]
    by_cases e : j = k
    · subst e; rw [mup_self, stF_ne (by decide)]
    · rw [mup_ne2 e, ih (by omega)]
theorem sR_st {σ : mMem} {p : Nat} {A : AW} (h : mR σ 1 p A) : sR (stF σ (40 * p) 40) p A := by
  obtain ⟨a1, a2, a3, a4, a5, a6, a7⟩ := h
  refine ⟨?_, ?_, fun l hl => ?_, ?_, a5, a6.congr (fun k hk => ?_), a7⟩
  · exact (stF_at (j := 0) (by omega)).trans a1
  · rw [stF_at (by omega)]; exact a2
  · rw [stF_ne (by decide)]; exact a3 l hl
  · rw [stF_at (by omega)]; exact a4
  · show stF σ (40 * p) 40 12 (8 + k) = σ 1 (40 * p + 8 + k)
    rw [stF_at (by omega), Nat.add_assoc]
theorem va_up_o {σ : mMem} {i a b : Nat} {f : Nat → Int32} (h : a ≠ i) : va_up σ i f a b = σ a b := by rw [va_up_ne _ _ h]
theorem sR_off {σ : mMem} {p n c j : Nat} {A : AW} (h : sR σ p A) (hc : c < A.2.2.2.length) (hn : A.2.2.2.length = n) (hj : j = 4 * (n - 1 - c)) : sR (va_up σ 12 (osh (upd (σ 12) 3 (nI (n - 1))) 0 (4 * c) j)) p (awo A c) := by
  subst hj
  obtain ⟨a1, a2, a3, a4, a5, a6, a7⟩ := h
  have hl : (A.2.2.2.eraseIdx c).length = A.2.2.2.length - 1 := by rw [List.length_eraseIdx, if_pos hc]
  refine ⟨?_, ?_, fun l hl => ?_, ?_, ?_, ?_, fun x hx => a7 x (List.mem_of_mem_eraseIdx hx)⟩
  · rw [va_up_self, osh_at, if_neg (by omega), pk_un (by decide)]; exact a1
  · rw [va_up_self, osh_at, if_neg (by omega), pk_un (by decide)]; exact a2
  · rw [va_up_o (by decide)]; exact a3 l hl
  · rw [va_up_self, osh_at, if_neg (by omega), pk_us]; show _ = nI (A.2.2.2.eraseIdx c).length; rw [hl, hn]
  · show (A.2.2.2.eraseIdx c).length ≤ 8; omega
  · refine (a6.erase hc).congr (fun k hk => ?_)
    have hk : k < 4 * (A.2.2.2.eraseIdx c).length := hk
    rw [hl] at hk
    show va_up σ 12 _ 12 (8 + k) = _
    rw [va_up_self, osh_at]
    by_cases h2 : 4 * c ≤ k ∧ k < 4 * c + 4 * (n - 1 - c)
    · rw [if_pos (by omega), pk_un (by omega), pk_cpy_in h2.1 (by omega)]
      show σ 12 _ = σ 12 _
      congr 1; omega
    · rw [if_neg (by omega), pk_un (by omega), pk_cpy_out (by omega)]
def kpF (σ τ : mMem) : Prop := ∀ a b, (a ≠ 2 ∧ a ≠ 10 ∧ a ≠ 11 ∧ a ≠ 12) → ¬ (a = 0 ∧ (b = 19 ∨ b = 20)) → τ a b = σ a b
theorem kpF_r {σ : mMem} : kpF σ σ := fun _ _ _ _ => rfl
theorem kpF_B {σ τ : mMem} {b k : Nat} (h : kpB (stF σ b k) τ) : kpF σ τ := fun a c q1 q2 => (h a c ⟨q1.1, q1.2.1, q1.2.2.1⟩ q2).trans (stF_ne q1.2.2.2)
theorem kpF_c {σ τ ρ : mMem} {b k : Nat} {f : Nat → Int32} (h : kpB (stF σ b k) τ) (h2 : kpB (va_up τ 12 f) ρ) : kpF σ ρ := fun a c q1 q2 => (h2 a c ⟨q1.1, q1.2.1, q1.2.2.1⟩ q2).trans ((va_up_o q1.2.2.2).trans (kpF_B h a c q1 q2))
set_option maxHeartbeats 4000000 in
set_option maxRecDepth 100000 in
theorem mt_X8_free (l : Launch) (D : va_G) (dA : Nat → ClassId) (st : Nat) (hst : st = 1 ∨ st = 2) (ad : Nat → Nat) (N : Nat) (hA : yA ad N) (σ : mMem) (p a : Int32) (np : Nat) (nc : Nat → Nat) (ld : Nat → Nat → Nat) (hF : yFk σ 1 np nc ld) (ru : Nat) (hru : σ 5 0 = nI ru) (hru3 : ru < 3) (PA : Nat → AW) (hPA : ∀ p, p < np → mR σ 1 p (PA p) ∧ (PA p).2.2.2.length = nc p) : Met l yX8_free (ws_ yX8_free cX8_free 5 (some .int)) ({ frames := 4, cells := 0, slots := 0, locals := 100 }) (va_Pc [.ref (ad 0), .int p, .int a] (mPre D dA (shM st) ad N σ)) (va_Qi (fun (r : Int32) (u : mMem × Nat) => (if ik p np then (if ik a 8 then (if nc (tn p) ≤ 6 then (if 360 < (bestY (PA (tn p)) ru).1 then (r = -4 ∧ kpF σ u.1 ∧ (u.2 = 1 ∨ u.2 = 2)) else (if tn a ≤ 1 then (if tn a = 0 then (r = (bestY (PA (tn p)) ru).1 ∧ kpF σ u.1 ∧ (u.2 = 1 ∨ u.2 = 2)) else (r = (bestY (PA (tn p)) ru).2.1 ∧ kpF σ u.1 ∧ (u.2 = 1 ∨ u.2 = 2))) else (if tn a - 2 < nc (tn p) then (r = nI ((bestY (PA (tn p)) ru).2.2 (tn a - 2)) ∧ kpF σ u.1 ∧ (u.2 = 1 ∨ u.2 = 2)) else (r = -4 ∧ kpF σ u.1 ∧ (u.2 = 1 ∨ u.2 = 2))))) else (r = -3 ∧ kpF σ u.1 ∧ (u.2 = 1 ∨ u.2 = 2))) else (r = -1 ∧ kpF σ u.1 ∧ (u.2 = 1 ∨ u.2 = 2))) else (r = -1 ∧ kpF σ u.1 ∧ (u.2 = 1 ∨ u.2 = 2)))) (mBM D dA ad N) (mAd ad N)) 0 0 (mAd ad N) := by
  refine Met.ofW (cc := cX8_free) (maxL := 5) (ret := (some .int)) (by decide) rfl ?_
  intro pp ee ss mm args below meth cd s₁ B hml hv
  obtain ⟨rfl, hP, hE⟩ := hv
  have hx := B.exec
  have hb := B.bytes
  have hr := B.returns
  have hts := atoms_spec (ws := ws_ yX8_free cX8_free 5 (some .int)) B.pre
  have hts : ∀ w ∈ lw_all, w.before _ ss = true := fun w h => hts w (List.mem_cons_of_mem _ h)
  have hown : ss.vm.findClass RX8 = some mm.cls := findClass_of_methodNamed B.named
  have hlocks := B.notSynchronized
  have hD := hA.2.self
  have hS : va_S (mAd ad N) ss.heap ss.heap [] := va_S.rf
  have hNN := hA.1
  have hn5 := hF.n5
  have hl := lv_entry ([.ref (ad 0), .int p, .int a]) (n := 5) (Nat.le_of_ble_eq_true rfl)
  rw [lg_entry_eq]
  generalize (lg_sl ([.ref (ad 0), .int p, .int a]) ++ List.replicate (5 - (lg_sl ([.ref (ad 0), .int p, .int a])).length) Slot.unset).toArray = ls at hl ⊢
  have hl : lv_has ls 5 [(0, .ref (ad 0)), (1, .int p), (2, .int a)] := hl
  refine lv_aload_n hx hb dX8_free_0 rfl (lv_at hl 0 rfl) ?_
  refine lv_iload_n hx hb dX8_free_1 rfl (lv_at hl 1 rfl) ?_
  refine vp_callSi (W.runV (As := [.int p]) (rest := []) ⟨hx, hb, hml, hown, hts⟩ (mt_X8_isOne l D dA st hst ad N hA σ p np hF.n hF.n5) (cwV 1 hts (lw_V q863 q865 qs20 q55 q866) rfl rfl rfl (by decide +kernel) ⟨Nat.le_of_ble_eq_true rfl, Nat.le_of_ble_eq_true rfl⟩) ⟨mPre.blind, m_recv hE hP 0 (yl_n hA (by decide)) rfl rfl, mPre.at hE hP⟩ rfl rfl hl.1 rfl (lv_room (Nat.le_of_ble_eq_true rfl)) dX8_free_2 ⟨Nat.le_of_ble_eq_true rfl, Nat.le_of_ble_eq_true rfl⟩) (fun r_1 hr_1 => ?_)
  subst hr_1
  refine lv_if_eq (tgt := 20) hx hb dX8_free_5 (by decide) (fun c_2 => ?_) (fun c_2 => ?_)
  · have c_2 : ¬ (ik p np) := bi_f c_2
    refine lv_iconst (v := (-1)) hx hb dX8_free_20 (by decide) ?_
    exact W.iret (v := (-1)) hx hb hr (fun t ht hW => ⟨⟨_, (σ, st), rfl, by dsimp only; rw [if_neg c_2]; exact ⟨rfl, kpF_r, hst⟩, mBM.of ht hP⟩, hS.F ht⟩) hS.2.2 dX8_free_21
  · have c_2 : ik p np := bi_t c_2
    have c_2_lt := ik_lt c_2
    have c_2_m := hF.m c_2_lt
    have c_2_8 := hF.m8 c_2_lt
    refine lv_iload_n hx hb dX8_free_8 rfl (lv_at hl 2 rfl) ?_
    refine lv_i2l (v := a.toInt64) hx hb dX8_free_9 rfl ?_
    refine lv_lconst (v := 0) hx hb dX8_free_10 (by decide) ?_
    refine lv_ldc2 hx hb hown (hts _ q1011) dX8_free_11 ?_
    refine vp_callSi (W.runS (As := [.long a.toInt64, .long 0, .long 7]) (rest := []) ⟨hx, hb, hml, hown, hts⟩ (mt_X8_in l a.toInt64 0 7) (va_cwS 3 hts (lw_S q854 q855 q55 q856) rfl rfl rfl (by decide +kernel) ⟨Nat.le_of_ble_eq_true rfl, Nat.le_of_ble_eq_true rfl⟩) ⟨fun _ _ _ _ h => h, fun _ _ _ => ⟨rfl, trivial⟩⟩ rfl rfl hl.1 rfl (lv_room (Nat.le_of_ble_eq_true rfl)) dX8_free_14 ⟨Nat.le_of_ble_eq_true rfl, Nat.le_of_ble_eq_true rfl⟩) (fun r_3 hr_3 => ?_)
    subst hr_3
    refine lv_rwi (bi_c (lik_of (n := 8) rfl rfl)) ?_
    refine lv_if_ne (tgt := 22) hx hb dX8_free_17 (by decide) (fun c_4 => ?_) (fun c_4 => ?_)
    · have c_4 : ik a 8 := bi_t c_4
      have c_4_lt := ik_lt c_4
      refine lv_aload_n hx hb dX8_free_22 rfl (lv_at hl 0 rfl) ?_
      refine mg_ref hx hb hts in_X8 hown hE hP 0 (yl_n hA (by decide)) rfl rfl 1 rfl (by decide) (hts _ q765) (fun _ h9 => h9) dX8_free_23 ?_
      refine lv_bipush (v := 40) hx hb dX8_free_26 (by decide) ?_
      refine lv_iload_n hx hb dX8_free_28 rfl (lv_at hl 1 rfl) ?_
      refine lv_imul hx hb dX8_free_29 ?_
      refine lv_iconst (v := 3) hx hb dX8_free_30 (by decide) ?_
      refine lv_iadd hx hb dX8_free_31 ?_
      refine mg_ild hx hb hE hP 1 (yl_n hA (by decide)) rfl (40 * (tn p) + 3) (by omega) (mi_add (mi_mul rfl (ik_eq c_2)) rfl) (by decide) dX8_free_32 ?_
      refine lv_rwi (c_2_m) ?_
      refine lv_istore_n (lv' := [(3, .int (nI (nc (tn p)))), (0, .ref (ad 0)), (1, .int p), (2, .int a)]) hx hb dX8_free_33 rfl hl (by decide) rfl (fun ls hl => ?_)
      refine lv_iload_n hx hb dX8_free_34 rfl (lv_at hl 0 rfl) ?_
      refine lv_bipush (v := 6) hx hb dX8_free_35 (by decide) ?_
      refine lv_icmp_le (tgt := 43) hx hb dX8_free_37 (by decide) (fun c_5 => ?_) (fun c_5 => ?_)
      · have nc_5 : nc (tn p) ≤ 6 := mi_le rfl rfl (by omega) (by omega) c_5
        have hPp := hPA (tn p) c_2_lt
        refine lv_aload_n hx hb dX8_free_43 rfl (lv_at hl 1 rfl) ?_
        refine lv_iload_n hx hb dX8_free_44 rfl (lv_at hl 2 rfl) ?_
        refine va_callv (va_runV (As := [.int p]) (rest := []) ⟨hx, hb, hml, hown, hts⟩ (mt_X8_starts l D dA st hst ad N hA σ p (tn p) (ik_eq c_2) (by omega)) (cwV 1 hts (lw_V q1012 q1014 qs36 q55 q1015) rfl rfl rfl (by decide +kernel) ⟨Nat.le_of_ble_eq_true rfl, Nat.le_of_ble_eq_true rfl⟩) ⟨mPre.blind, m_recv hE hP 0 (yl_n hA (by decide)) rfl rfl, mPre.at hE hP⟩ rfl rfl hl.1 rfl (lv_room (Nat.le_of_ble_eq_true rfl)) dX8_free_45 ⟨Nat.le_of_ble_eq_true rfl, Nat.le_of_ble_eq_true rfl⟩) hS (fun q _ h => h) (fun q h => h) (fun ur_6 tr_6 H locs ht h0 hr_6 hB h1 h2 hS => ?_)
        subst hr_6
        have hP := mB.get ht hB
        refine lv_aload_n hx hb dX8_free_48 rfl (lv_at hl 1 rfl) ?_
        refine lv_iload_n hx hb dX8_free_49 rfl (lv_at hl 2 rfl) ?_
        refine va_calli (va_runV (As := [.int p]) (rest := []) ⟨hx, hb, hml, hown, hts⟩ (mt_X8_bestFree l D dA st hst ad N hA (stF σ (40 * (tn p)) 40) p (tn p) (ik_eq c_2) (by omega) (nc (tn p)) (by omega) (PA (tn p)) (sR_st hPp.1) hPp.2 ru ((stF_ne (by decide)).trans hru) hru3) (cwV 1 hts (lw_V q1016 q1018 qs37 q55 q1019) rfl rfl rfl (by decide +kernel) ⟨Nat.le_of_ble_eq_true rfl, Nat.le_of_ble_eq_true rfl⟩) ⟨mPre.blind, m_recv hE hP 0 (yl_n hA (by decide)) rfl rfl, mPre.at hE hP⟩ rfl rfl hl.1 rfl (lv_room (Nat.le_of_ble_eq_true rfl)) dX8_free_50 ⟨Nat.le_of_ble_eq_true rfl, Nat.le_of_ble_eq_true rfl⟩) hS (fun q _ h => h) (fun q h => h) (fun r_7 ur_7 tr_7 H locs ht h0 hr_7 hB h1 h2 hS => ?_)
        obtain ⟨rfl, hza, hka, hua⟩ := hr_7
        have hP := mBM.get2 (st := ur_7.2) ht rfl hB
        refine lv_istore (lv' := [(4, .int ((bestY (PA (tn p)) ru).1)), (3, .int (nI (nc (tn p)))), (0, .ref (ad 0)), (1, .int p), (2, .int a)]) hx hb dX8_free_53 hl (by decide) rfl (fun ls hl => ?_)
        refine lv_iload hx hb dX8_free_55 (lv_at hl 0 rfl) ?_
        refine lv_sipush (v := 360) hx hb dX8_free_57 (by decide) ?_
        refine lv_icmp_gt (tgt := 75) hx hb dX8_free_60 (by decide) (fun c_8 => ?_) (fun c_8 => ?_)
        · skip
          refine lv_bipush (v := (-4)) hx hb dX8_free_75 (by decide) ?_
          exact W.iret (v := (-4)) hx hb hr (fun t ht hW => ⟨⟨_, (ur_7.1, ur_7.2), rfl, by dsimp only; rw [if_pos c_2, if_pos c_4, if_pos (by omega), if_pos c_8]; exact ⟨rfl, kpF_B hka, hua⟩, mBM.of ht hP⟩, hS.F ht⟩) hS.2.2 dX8_free_77
        · skip
          have hlt := lt_361 c_8
          refine lv_iload_n hx hb dX8_free_63 rfl (lv_at hl 4 rfl) ?_
          refine lv_iconst (v := 1) hx hb dX8_free_64 (by decide) ?_
          refine lv_icmp_le (tgt := 78) hx hb dX8_free_65 (by decide) (fun c_9 => ?_) (fun c_9 => ?_)
          · have nc_9 : tn a ≤ 1 := mi_le (ik_eq c_4) rfl (by omega) (by omega) c_9
            refine lv_iload_n hx hb dX8_free_78 rfl (lv_at hl 4 rfl) ?_
            refine lv_if_ne (tgt := 87) hx hb dX8_free_79 (by decide) (fun c_10 => ?_) (fun c_10 => ?_)
            · have nc_10 : tn a ≠ 0 := mi_ne (ik_eq c_4) rfl (by omega) (by omega) c_10
              refine lv_iload_n hx hb dX8_free_87 rfl (lv_at hl 4 rfl) ?_
              refine lv_iconst (v := 1) hx hb dX8_free_88 (by decide) ?_
              refine lv_icmp_ne (tgt := 99) hx hb dX8_free_89 (by decide) (fun c_11 => ?_) (fun c_11 => ?_)
              · have nc_11 : tn a ≠ 1 := mi_ne (ik_eq c_4) rfl (by omega) (by omega) c_11
                omega
              · have nc_11 : tn a = 1 := mi_eq (ik_eq c_4) rfl (by omega) (by omega) c_11
                refine lv_aload_n hx hb dX8_free_92 rfl (lv_at hl 2 rfl) ?_
                refine mg_get hx hb hts in_X8 hown hE hP 0 (yl_n hA (by decide)) rfl rfl 20 rfl (by decide) (hts _ q784) (fun _ h9 => h9) dX8_free_93 ?_
                refine lv_rwi ((hza hlt).1) ?_
                refine lv_goto (tgt := 107) hx hb dX8_free_96 (by decide) ?_
                exact W.iret (v := (bestY (PA (tn p)) ru).2.1) hx hb hr (fun t ht hW => ⟨⟨_, (ur_7.1, ur_7.2), rfl, by dsimp only; rw [if_pos c_2, if_pos c_4, if_pos (by omega), if_neg c_8, if_pos (by omega), if_neg (by omega)]; exact ⟨rfl, kpF_B hka, hua⟩, mBM.of ht hP⟩, hS.F ht⟩) hS.2.2 dX8_free_107
            · have nc_10 : tn a = 0 := mi_eq (ik_eq c_4) rfl (by omega) (by omega) c_10
              refine lv_iload hx hb dX8_free_82 (lv_at hl 0 rfl) ?_
              refine lv_goto (tgt := 107) hx hb dX8_free_84 (by decide) ?_
              exact W.iret (v := (bestY (PA (tn p)) ru).1) hx hb hr (fun t ht hW => ⟨⟨_, (ur_7.1, ur_7.2), rfl, by dsimp only; rw [if_pos c_2, if_pos c_4, if_pos (by omega), if_neg c_8, if_pos (by omega), if_pos (by omega)]; exact ⟨rfl, kpF_B hka, hua⟩, mBM.of ht hP⟩, hS.F ht⟩) hS.2.2 dX8_free_107
          · have nc_9 : 1 < tn a := mi_nle (ik_eq c_4) rfl (by omega) (by omega) c_9
            refine lv_iload_n hx hb dX8_free_68 rfl (lv_at hl 4 rfl) ?_
            refine lv_iconst (v := 2) hx hb dX8_free_69 (by decide) ?_
            refine lv_isub hx hb dX8_free_70 ?_
            refine lv_iload_n hx hb dX8_free_71 rfl (lv_at hl 1 rfl) ?_
            refine lv_icmp_lt (tgt := 78) hx hb dX8_free_72 (by decide) (fun c_12 => ?_) (fun c_12 => ?_)
            · have nc_12 : (tn a) - 2 < nc (tn p) := mi_lt (mi_sub (a := tn a) (b := 2) (ik_eq c_4) rfl (by omega)) rfl (by omega) (by omega) c_12
              refine lv_iload_n hx hb dX8_free_78 rfl (lv_at hl 4 rfl) ?_
              refine lv_if_ne (tgt := 87) hx hb dX8_free_79 (by decide) (fun c_13 => ?_) (fun c_13 => ?_)
              · have nc_13 : tn a ≠ 0 := mi_ne (ik_eq c_4) rfl (by omega) (by omega) c_13
                refine lv_iload_n hx hb dX8_free_87 rfl (lv_at hl 4 rfl) ?_
                refine lv_iconst (v := 1) hx hb dX8_free_88 (by decide) ?_
                refine lv_icmp_ne (tgt := 99) hx hb dX8_free_89 (by decide) (fun c_14 => ?_) (fun c_14 => ?_)
                · have nc_14 : tn a ≠ 1 := mi_ne (ik_eq c_4) rfl (by omega) (by omega) c_14
                  refine lv_aload_n hx hb dX8_free_99 rfl (lv_at hl 2 rfl) ?_
                  refine mg_ref hx hb hts in_X8 hown hE hP 0 (yl_n hA (by decide)) rfl rfl 18 rfl (by decide) (hts _ q782) (fun _ h9 => h9) dX8_free_100 ?_
                  refine lv_iload_n hx hb dX8_free_103 rfl (lv_at hl 4 rfl) ?_
                  refine lv_iconst (v := 2) hx hb dX8_free_104 (by decide) ?_
                  refine lv_isub hx hb dX8_free_105 ?_
                  refine mg_ild hx hb hE hP 11 (yl_n hA (by decide)) rfl ((tn a) - 2) (by omega) (mi_sub (a := tn a) (b := 2) (ik_eq c_4) rfl (by omega)) (by decide) dX8_free_106 ?_
                  refine lv_rwi ((hza hlt).2 _ (by omega)) ?_
                  exact W.iret (v := (nI ((bestY (PA (tn p)) ru).2.2 (tn a - 2)))) hx hb hr (fun t ht hW => ⟨⟨_, (ur_7.1, ur_7.2), rfl, by dsimp only; rw [if_pos c_2, if_pos c_4, if_pos (by omega), if_neg c_8, if_neg (by omega), if_pos (by omega)]; exact ⟨rfl, kpF_B hka, hua⟩, mBM.of ht hP⟩, hS.F ht⟩) hS.2.2 dX8_free_107
                · have nc_14 : tn a = 1 := mi_eq (ik_eq c_4) rfl (by omega) (by omega) c_14
                  omega
              · have nc_13 : tn a = 0 := mi_eq (ik_eq c_4) rfl (by omega) (by omega) c_13
                omega
            · have nc_12 : nc (tn p) ≤ (tn a) - 2 := mi_nlt (mi_sub (a := tn a) (b := 2) (ik_eq c_4) rfl (by omega)) rfl (by omega) (by omega) c_12
              refine lv_bipush (v := (-4)) hx hb dX8_free_75 (by decide) ?_
              exact W.iret (v := (-4)) hx hb hr (fun t ht hW => ⟨⟨_, (ur_7.1, ur_7.2), rfl, by dsimp only; rw [if_pos c_2, if_pos c_4, if_pos (by omega), if_neg c_8, if_neg (by omega), if_neg (by omega)]; exact ⟨rfl, kpF_B hka, hua⟩, mBM.of ht hP⟩, hS.F ht⟩) hS.2.2 dX8_free_77
      · have nc_5 : 6 < nc (tn p) := mi_nle rfl rfl (by omega) (by omega) c_5
        refine lv_bipush (v := (-3)) hx hb dX8_free_40 (by decide) ?_
        exact W.iret (v := (-3)) hx hb hr (fun t ht hW => ⟨⟨_, (σ, st), rfl, by dsimp only; rw [if_pos c_2, if_pos c_4, if_neg (by omega)]; exact ⟨rfl, kpF_r, hst⟩, mBM.of ht hP⟩, hS.F ht⟩) hS.2.2 dX8_free_42
    · have c_4 : ¬ (ik a 8) := bi_f c_4
      refine lv_iconst (v := (-1)) hx hb dX8_free_20 (by decide) ?_
      exact W.iret (v := (-1)) hx hb hr (fun t ht hW => ⟨⟨_, (σ, st), rfl, by dsimp only; rw [if_pos c_2, if_neg c_4]; exact ⟨rfl, kpF_r, hst⟩, mBM.of ht hP⟩, hS.F ht⟩) hS.2.2 dX8_free_21
set_option maxHeartbeats 4000000 in
set_option maxRecDepth 100000 in
theorem mt_X8_saves (l : Launch) (D : va_G) (dA : Nat → ClassId) (st : Nat) (hst : st = 1 ∨ st = 2) (ad : Nat → Nat) (N : Nat) (hA : yA ad N) (σ : mMem) (p c : Int32) (np : Nat) (nc : Nat → Nat) (ld : Nat → Nat → Nat) (hF : yFk σ 1 np nc ld) (ru : Nat) (hru : σ 5 0 = nI ru) (hru3 : ru < 3) (PA : Nat → AW) (hPA : ∀ p, p < np → mR σ 1 p (PA p) ∧ (PA p).2.2.2.length = nc p) : Met l yX8_saves (ws_ yX8_saves cX8_saves 5 (some .int)) ({ frames := 4, cells := 0, slots := 0, locals := 100 }) (va_Pc [.ref (ad 0), .int p, .int c] (mPre D dA (shM st) ad N σ)) (va_Qi (fun (r : Int32) (u : mMem × Nat) => (if ik p np ∧ ik c (nc (tn p)) then (if nc (tn p) ≤ 6 then (if btw c (nc (tn p)) then (r = (bestY (PA (tn p)) ru).1 - (bestY (awo (PA (tn p)) (tn c)) ru).1 ∧ kpF σ u.1 ∧ (u.2 = 1 ∨ u.2 = 2)) else (r = -2 ∧ kpF σ u.1 ∧ (u.2 = 1 ∨ u.2 = 2))) else (r = -3 ∧ kpF σ u.1 ∧ (u.2 = 1 ∨ u.2 = 2))) else (r = -1 ∧ kpF σ u.1 ∧ (u.2 = 1 ∨ u.2 = 2)))) (mBM D dA ad N) (mAd ad N)) 0 0 (mAd ad N) := by
  refine Met.ofW (cc := cX8_saves) (maxL := 5) (ret := (some .int)) (by decide) rfl ?_
  intro pp ee ss mm args below meth cd s₁ B hml hv
  obtain ⟨rfl, hP, hE⟩ := hv
  have hx := B.exec
  have hb := B.bytes
  have hr := B.returns
  have hts := atoms_spec (ws := ws_ yX8_saves cX8_saves 5 (some .int)) B.pre
  have hts : ∀ w ∈ lw_all, w.before _ ss = true := fun w h => hts w (List.mem_cons_of_mem _ h)
  have hown : ss.vm.findClass RX8 = some mm.cls := findClass_of_methodNamed B.named
  have hlocks := B.notSynchronized
  have hD := hA.2.self
  have hS : va_S (mAd ad N) ss.heap ss.heap [] := va_S.rf
  have hNN := hA.1
  have hn5 := hF.n5
  have hl := lv_entry ([.ref (ad 0), .int p, .int c]) (n := 5) (Nat.le_of_ble_eq_true rfl)
  rw [lg_entry_eq]
  generalize (lg_sl ([.ref (ad 0), .int p, .int c]) ++ List.replicate (5 - (lg_sl ([.ref (ad 0), .int p, .int c])).length) Slot.unset).toArray = ls at hl ⊢
  have hl : lv_has ls 5 [(0, .ref (ad 0)), (1, .int p), (2, .int c)] := hl
  refine lv_aload_n hx hb dX8_saves_0 rfl (lv_at hl 0 rfl) ?_
  refine lv_iload_n hx hb dX8_saves_1 rfl (lv_at hl 1 rfl) ?_
  refine lv_iload_n hx hb dX8_saves_2 rfl (lv_at hl 2 rfl) ?_
  refine vp_callSi (W.runV (As := [.int p, .int c]) (rest := []) ⟨hx, hb, hml, hown, hts⟩ (mt_X8_isCoat l D dA st hst ad N hA σ p c np nc ld hF) (cwV 2 hts (lw_V q877 q879 qs22 q55 q880) rfl rfl rfl (by decide +kernel) ⟨Nat.le_of_ble_eq_true rfl, Nat.le_of_ble_eq_true rfl⟩) ⟨mPre.blind, m_recv hE hP 0 (yl_n hA (by decide)) rfl rfl, mPre.at hE hP⟩ rfl rfl hl.1 rfl (lv_room (Nat.le_of_ble_eq_true rfl)) dX8_saves_3 ⟨Nat.le_of_ble_eq_true rfl, Nat.le_of_ble_eq_true rfl⟩) (fun r_1 hr_1 => ?_)
  subst hr_1
  refine lv_if_ne (tgt := 11) hx hb dX8_saves_6 (by decide) (fun c_2 => ?_) (fun c_2 => ?_)
  · have c_2 : ik p np ∧ ik c (nc (tn p)) := bi_t c_2
    obtain ⟨c_2_0, c_2_1⟩ := id c_2
    have c_2_0_lt := ik_lt c_2_0
    have c_2_0_m := hF.m c_2_0_lt
    have c_2_0_8 := hF.m8 c_2_0_lt
    have c_2_1_lt := ik_lt c_2_1
    refine lv_aload_n hx hb dX8_saves_11 rfl (lv_at hl 0 rfl) ?_
    refine mg_ref hx hb hts in_X8 hown hE hP 0 (yl_n hA (by decide)) rfl rfl 1 rfl (by decide) (hts _ q765) (fun _ h9 => h9) dX8_saves_12 ?_
    refine lv_bipush (v := 40) hx hb dX8_saves_15 (by decide) ?_
    refine lv_iload_n hx hb dX8_saves_17 rfl (lv_at hl 1 rfl) ?_
    refine lv_imul hx hb dX8_saves_18 ?_
    refine lv_iconst (v := 3) hx hb dX8_saves_19 (by decide) ?_
    refine lv_iadd hx hb dX8_saves_20 ?_
    refine mg_ild hx hb hE hP 1 (yl_n hA (by decide)) rfl (40 * (tn p) + 3) (by omega) (mi_add (mi_mul rfl (ik_eq c_2_0)) rfl) (by decide) dX8_saves_21 ?_
    refine lv_bipush (v := 6) hx hb dX8_saves_22 (by decide) ?_
    refine lv_icmp_le (tgt := 30) hx hb dX8_saves_24 (by decide) (fun c_3 => ?_) (fun c_3 => ?_)
    · have nc_3 : nc (tn p) ≤ 6 := mi_le c_2_0_m rfl (by omega) (by omega) c_3
      refine lv_aload_n hx hb dX8_saves_30 rfl (lv_at hl 0 rfl) ?_
      refine lv_iload_n hx hb dX8_saves_31 rfl (lv_at hl 1 rfl) ?_
      refine lv_iload_n hx hb dX8_saves_32 rfl (lv_at hl 2 rfl) ?_
      refine vp_callSi (W.runV (As := [.int p, .int c]) (rest := []) ⟨hx, hb, hml, hown, hts⟩ (mt_X8_isBetween l D dA st hst ad N hA σ p c np nc ld hF c_2_0) (cwV 2 hts (lw_V q978 q980 qs32 q55 q981) rfl rfl rfl (by decide +kernel) ⟨Nat.le_of_ble_eq_true rfl, Nat.le_of_ble_eq_true rfl⟩) ⟨mPre.blind, m_recv hE hP 0 (yl_n hA (by decide)) rfl rfl, mPre.at hE hP⟩ rfl rfl hl.1 rfl (lv_room (Nat.le_of_ble_eq_true rfl)) dX8_saves_33 ⟨Nat.le_of_ble_eq_true rfl, Nat.le_of_ble_eq_true rfl⟩) (fun r_4 hr_4 => ?_)
      subst hr_4
      refine lv_if_ne (tgt := 42) hx hb dX8_saves_36 (by decide) (fun c_5 => ?_) (fun c_5 => ?_)
      · have c_5 : btw c (nc (tn p)) := bi_t c_5
        have hPp := hPA (tn p) c_2_0_lt
        refine lv_aload_n hx hb dX8_saves_42 rfl (lv_at hl 0 rfl) ?_
        refine lv_iload_n hx hb dX8_saves_43 rfl (lv_at hl 1 rfl) ?_
        refine va_callv (va_runV (As := [.int p]) (rest := []) ⟨hx, hb, hml, hown, hts⟩ (mt_X8_starts l D dA st hst ad N hA σ p (tn p) (ik_eq c_2_0) (by omega)) (cwV 1 hts (lw_V q1012 q1014 qs36 q55 q1015) rfl rfl rfl (by decide +kernel) ⟨Nat.le_of_ble_eq_true rfl, Nat.le_of_ble_eq_true rfl⟩) ⟨mPre.blind, m_recv hE hP 0 (yl_n hA (by decide)) rfl rfl, mPre.at hE hP⟩ rfl rfl hl.1 rfl (lv_room (Nat.le_of_ble_eq_true rfl)) dX8_saves_44 ⟨Nat.le_of_ble_eq_true rfl, Nat.le_of_ble_eq_true rfl⟩) hS (fun q _ h => h) (fun q h => h) (fun ur_6 tr_6 H locs ht h0 hr_6 hB h1 h2 hS => ?_)
        subst hr_6
        have hP := mB.get ht hB
        refine lv_aload_n hx hb dX8_saves_47 rfl (lv_at hl 0 rfl) ?_
        refine lv_iload_n hx hb dX8_saves_48 rfl (lv_at hl 1 rfl) ?_
        refine va_calli (va_runV (As := [.int p]) (rest := []) ⟨hx, hb, hml, hown, hts⟩ (mt_X8_bestFree l D dA st hst ad N hA (stF σ (40 * (tn p)) 40) p (tn p) (ik_eq c_2_0) (by omega) (nc (tn p)) (by omega) (PA (tn p)) (sR_st hPp.1) hPp.2 ru ((stF_ne (by decide)).trans hru) hru3) (cwV 1 hts (lw_V q1016 q1018 qs37 q55 q1019) rfl rfl rfl (by decide +kernel) ⟨Nat.le_of_ble_eq_true rfl, Nat.le_of_ble_eq_true rfl⟩) ⟨mPre.blind, m_recv hE hP 0 (yl_n hA (by decide)) rfl rfl, mPre.at hE hP⟩ rfl rfl hl.1 rfl (lv_room (Nat.le_of_ble_eq_true rfl)) dX8_saves_49 ⟨Nat.le_of_ble_eq_true rfl, Nat.le_of_ble_eq_true rfl⟩) hS (fun q _ h => h) (fun q h => h) (fun r_7 ur_7 tr_7 H locs ht h0 hr_7 hB h1 h2 hS => ?_)
        obtain ⟨rfl, hzb, hkb, hub⟩ := hr_7
        have hP := mBM.get2 (st := ur_7.2) ht rfl hB
        refine lv_istore_n (lv' := [(3, .int ((bestY (PA (tn p)) ru).1)), (0, .ref (ad 0)), (1, .int p), (2, .int c)]) hx hb dX8_saves_52 rfl hl (by decide) rfl (fun ls hl => ?_)
        have hs1 := sR_B (sR_st hPp.1) hkb
        refine lv_aload_n hx hb dX8_saves_53 rfl (lv_at hl 1 rfl) ?_
        refine mg_ref hx hb hts in_X8 hown hE hP 0 (yl_n hA (by decide)) rfl rfl 21 rfl (by decide) (hts _ q785) (fun _ h9 => h9) dX8_saves_54 ?_
        refine lv_iconst (v := 3) hx hb dX8_saves_57 (by decide) ?_
        refine lv_dup2_11 hx hb dX8_saves_58 rfl rfl ?_
        refine mg_ild hx hb hE hP 12 (yl_n hA (by decide)) rfl 3 (by omega) rfl (by decide) dX8_saves_59 ?_
        refine lv_iconst (v := 1) hx hb dX8_saves_60 (by decide) ?_
        refine lv_isub hx hb dX8_saves_61 ?_
        refine lv_rwi (mi_sub (a := nc (tn p)) (b := 1) (hs1.2.2.2.1.trans (congrArg nI hPp.2)) rfl (by omega)) ?_
        refine mg_ist (v := (nI ((nc (tn p)) - 1))) hx hb hE hD hP hS 12 (yl_n hA (by decide)) rfl 3 (by omega) rfl (by decide) dX8_saves_62 (fun H locs hP hS => ?_)
        refine lv_iconst (v := 4) hx hb dX8_saves_63 (by decide) ?_
        refine lv_iload_n hx hb dX8_saves_64 rfl (lv_at hl 3 rfl) ?_
        refine lv_imul hx hb dX8_saves_65 ?_
        refine lv_rwi (mi_mul rfl (ik_eq c_2_1)) ?_
        refine lv_istore (lv' := [(4, .int (nI (4 * (tn c)))), (3, .int ((bestY (PA (tn p)) ru).1)), (0, .ref (ad 0)), (1, .int p), (2, .int c)]) hx hb dX8_saves_66 hl (by decide) rfl (fun ls hl => ?_)
        have lp68 : ∀ (fu : Nat) (j : Nat) (_ : tn c * 4 + j ≤ 4 * (nc (tn p) - 1)) (_ : 4 * (nc (tn p) - 1) - (4 * tn c + j) < fu) (H : Heap) (locs : List Loc) (_ : va_P D xCl (mW dA (shM ur_7.2) ad N (va_up ur_7.1 12 (osh (upd (ur_7.1 12) 3 (nI (nc (tn p) - 1))) 0 (4 * tn c) j))) H) (_ : va_S (mAd ad N) ss.heap H locs) (ls : Array Slot) (_ : lv_has ls 5 [(4, .int (nI (4 * tn c + j))), (3, .int ((bestY (PA (tn p)) ru).1)), (0, .ref (ad 0)), (1, .int p), (2, .int c)]), W pp l ee (headSpec (ws_ yX8_saves cX8_saves 5 (some .int)) ({ frames := 4, cells := 0, slots := 0, locals := 100 })).room ss mm ([.ref (ad 0), .int p, .int c] : List Value).toArray below meth cd H locs 0 0 (MQ below (va_Qi (fun (r : Int32) (u : mMem × Nat) => (if ik p np ∧ ik c (nc (tn p)) then (if nc (tn p) ≤ 6 then (if btw c (nc (tn p)) then (r = (bestY (PA (tn p)) ru).1 - (bestY (awo (PA (tn p)) (tn c)) ru).1 ∧ kpF σ u.1 ∧ (u.2 = 1 ∨ u.2 = 2)) else (r = -2 ∧ kpF σ u.1 ∧ (u.2 = 1 ∨ u.2 = 2))) else (r = -3 ∧ kpF σ u.1 ∧ (u.2 = 1 ∨ u.2 = 2))) else (r = -1 ∧ kpF σ u.1 ∧ (u.2 = 1 ∨ u.2 = 2)))) (mBM D dA ad N) (mAd ad N)) ([.ref (ad 0), .int p, .int c] : List Value).toArray ss 0 0 (mAd ad N)) (F0 mm 68 ls []) := by
          intro fu
          induction fu with
          | zero => intro j hj hfu; exact absurd hfu (Nat.not_lt_zero _)
          | succ fu ih68 =>
            intro j hj hfu H locs hP hS ls hl
            refine lv_iload hx hb dX8_saves_68 (lv_at hl 0 rfl) ?_
            refine lv_iconst (v := 4) hx hb dX8_saves_70 (by decide) ?_
            refine lv_aload_n hx hb dX8_saves_71 rfl (lv_at hl 2 rfl) ?_
            refine mg_ref hx hb hts in_X8 hown hE hP 0 (yl_n hA (by decide)) rfl rfl 21 rfl (by decide) (hts _ q785) (fun _ h9 => h9) dX8_saves_72 ?_
            refine lv_iconst (v := 3) hx hb dX8_saves_75 (by decide) ?_
            refine mg_ild hx hb hE hP 12 (yl_n hA (by decide)) rfl 3 (by omega) rfl (by decide) dX8_saves_76 ?_
            refine lv_rwi (congrFun (va_up_self _ _ _) _) ?_
            refine lv_imul hx hb dX8_saves_77 ?_
            refine lv_icmp_ge (tgt := 107) hx hb dX8_saves_78 (by decide) (fun c_8 => ?_) (fun c_8 => ?_)
            · have nc_8 : 4 * (nc (tn p) - 1) ≤ 4 * tn c + j := mi_le (mi_mul rfl ((osh_ne (by omega)).trans pk_us)) rfl (by omega) (by omega) c_8
              refine lv_iload_n hx hb dX8_saves_107 rfl (lv_at hl 1 rfl) ?_
              refine lv_aload_n hx hb dX8_saves_108 rfl (lv_at hl 2 rfl) ?_
              refine lv_iload_n hx hb dX8_saves_109 rfl (lv_at hl 3 rfl) ?_
              refine va_calli (va_runV (As := [.int p]) (rest := [.int ((bestY (PA (tn p)) ru).1)]) ⟨hx, hb, hml, hown, hts⟩ (mt_X8_bestFree l D dA ur_7.2 hub ad N hA (va_up ur_7.1 12 (osh (upd (ur_7.1 12) 3 (nI (nc (tn p) - 1))) 0 (4 * tn c) j)) p (tn p) (ik_eq c_2_0) (by omega) (nc (tn p) - 1) (by omega) (awo (PA (tn p)) (tn c)) (sR_off hs1 (by rw [hPp.2]; omega) hPp.2 (by omega)) (by rw [awo_n (by rw [hPp.2]; omega), hPp.2]) ru ((va_up_o (by decide)).trans ((hkb 5 0 (by decide) (by decide)).trans ((stF_ne (by decide)).trans hru))) hru3) (cwV 1 hts (lw_V q1016 q1018 qs37 q55 q1019) rfl rfl rfl (by decide +kernel) ⟨Nat.le_of_ble_eq_true rfl, Nat.le_of_ble_eq_true rfl⟩) ⟨mPre.blind, m_recv hE hP 0 (yl_n hA (by decide)) rfl rfl, mPre.at hE hP⟩ rfl rfl hl.1 rfl (lv_room (Nat.le_of_ble_eq_true rfl)) dX8_saves_110 ⟨Nat.le_of_ble_eq_true rfl, Nat.le_of_ble_eq_true rfl⟩) hS (fun q _ h => h) (fun q h => h) (fun r_9 ur_9 tr_9 H locs ht h0 hr_9 hB h1 h2 hS => ?_)
              obtain ⟨rfl, hzc, hkc, huc⟩ := hr_9
              have hP := mBM.get2 (st := ur_9.2) ht rfl hB
              refine lv_isub hx hb dX8_saves_113 ?_
              exact W.iret (v := ((bestY (PA (tn p)) ru).1 - (bestY (awo (PA (tn p)) (tn c)) ru).1)) hx hb hr (fun t ht hW => ⟨⟨_, (ur_9.1, ur_9.2), rfl, by dsimp only; rw [if_pos c_2, if_pos (by omega), if_pos c_5]; exact ⟨rfl, kpF_c hkb hkc, huc⟩, mBM.of ht hP⟩, hS.F ht⟩) hS.2.2 dX8_saves_114
            · have nc_8 : 4 * tn c + j < 4 * (nc (tn p) - 1) := mi_nle (mi_mul rfl ((osh_ne (by omega)).trans pk_us)) rfl (by omega) (by omega) c_8
              refine lv_aload_n hx hb dX8_saves_81 rfl (lv_at hl 2 rfl) ?_
              refine mg_ref hx hb hts in_X8 hown hE hP 0 (yl_n hA (by decide)) rfl rfl 21 rfl (by decide) (hts _ q785) (fun _ h9 => h9) dX8_saves_82 ?_
              refine lv_bipush (v := 8) hx hb dX8_saves_85 (by decide) ?_
              refine lv_iload hx hb dX8_saves_87 (lv_at hl 0 rfl) ?_
              refine lv_iadd hx hb dX8_saves_89 ?_
              refine lv_aload_n hx hb dX8_saves_90 rfl (lv_at hl 2 rfl) ?_
              refine mg_ref hx hb hts in_X8 hown hE hP 0 (yl_n hA (by decide)) rfl rfl 21 rfl (by decide) (hts _ q785) (fun _ h9 => h9) dX8_saves_91 ?_
              refine lv_bipush (v := 12) hx hb dX8_saves_94 (by decide) ?_
              refine lv_iload hx hb dX8_saves_96 (lv_at hl 0 rfl) ?_
              refine lv_iadd hx hb dX8_saves_98 ?_
              refine mg_ild hx hb hE hP 12 (yl_n hA (by decide)) rfl (12 + (4 * tn c + j)) (by omega) (mi_add rfl rfl) (by decide) dX8_saves_99 ?_
              refine lv_rwi (congrFun (va_up_self _ _ _) _) ?_
              refine mg_ist (v := (osh (upd (ur_7.1 12) 3 (nI (nc (tn p) - 1))) 0 (4 * tn c) j) (12 + (4 * tn c + j))) hx hb hE hD hP hS 12 (yl_n hA (by decide)) rfl (8 + (4 * tn c + j)) (by omega) (mi_add rfl rfl) (by decide) dX8_saves_100 (fun H locs hP hS => ?_)
              refine lv_iinc (v := (nI (4 * tn c + j + 1))) (lv' := [(4, .int (nI (4 * tn c + j + 1))), (3, .int ((bestY (PA (tn p)) ru).1)), (0, .ref (ad 0)), (1, .int p), (2, .int c)]) hx hb dX8_saves_101 hl (k := 0) rfl (mi_add rfl rfl) (by decide) rfl (fun ls hl => ?_)
              refine lv_goto (tgt := 68) hx hb dX8_saves_104 (by decide) ?_
              exact ih68  (j + 1) (by omega) (by omega) _ _ (m_eq (mup_up _ _ _ _ _) hP) hS ls (lv_sub hl [0, 1, 2, 3, 4] rfl)
        exact lp68 (4 * (nc (tn p) - 1) - (4 * tn c + 0) + 1) 0 (by omega) (by omega) _ _ (m_eq (rfl) hP) hS ls (lv_sub hl [0, 1, 2, 3, 4] rfl)
      · have c_5 : ¬ (btw c (nc (tn p))) := bi_f c_5
        refine lv_bipush (v := (-2)) hx hb dX8_saves_39 (by decide) ?_
        exact W.iret (v := (-2)) hx hb hr (fun t ht hW => ⟨⟨_, (σ, st), rfl, by dsimp only; rw [if_pos c_2, if_pos (by omega), if_neg c_5]; exact ⟨rfl, kpF_r, hst⟩, mBM.of ht hP⟩, hS.F ht⟩) hS.2.2 dX8_saves_41
    · have nc_3 : 6 < nc (tn p) := mi_nle c_2_0_m rfl (by omega) (by omega) c_3
      refine lv_bipush (v := (-3)) hx hb dX8_saves_27 (by decide) ?_
      exact W.iret (v := (-3)) hx hb hr (fun t ht hW => ⟨⟨_, (σ, st), rfl, by dsimp only; rw [if_pos c_2, if_neg (by omega)]; exact ⟨rfl, kpF_r, hst⟩, mBM.of ht hP⟩, hS.F ht⟩) hS.2.2 dX8_saves_29
  · have c_2 : ¬ (ik p np ∧ ik c (nc (tn p))) := bi_f c_2
    refine lv_iconst (v := (-1)) hx hb dX8_saves_9 (by decide) ?_
    exact W.iret (v := (-1)) hx hb hr (fun t ht hW => ⟨⟨_, (σ, st), rfl, by dsimp only; rw [if_neg c_2]; exact ⟨rfl, kpF_r, hst⟩, mBM.of ht hP⟩, hS.F ht⟩) hS.2.2 dX8_saves_10
