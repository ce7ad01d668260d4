theorem bare_nat {x : Int32} {m np : Nat} {nc : Nat → Nat} (h : x = nI m) (hm : m < 2 ^ 31) (hk : ik x np) : (ik x np ∧ nc (tn x) = 0) ↔ nc m = 0 := by
  subst h
  rw [tn_nI hm]
  exact ⟨fun q => q.2, fun q => ⟨hk, q⟩⟩
def mn9 (x : Int32) : Int32 := if x < 999999 then x else 999999
theorem ngA_ne {σ : mMem} {b : Nat} {nc : Nat → Nat} {ld : Nat → Nat → Nat} {i j : Nat} (p : Nat) (h : i < b) : ngA σ b nc ld p i j = σ i j := by
  induction p with
  | zero => rfl
  | succ p ih => rw [ngA, ngt_ne (by omega) (by omega), ih]
theorem xFk_ngA {σ : mMem} {k np : Nat} {nc : Nat → Nat} {ld : Nat → Nat → Nat} (h : xFk σ k np nc ld) {b p : Nat} (hb : b = 30 + 15 * k) (hp : p ≤ np) : xFk (ngA σ b nc ld p) k np nc ld := by
  induction p with
  | zero => exact h
  | succ p ih => exact xFk_ngt (ih (by omega)) hb (by omega)
theorem hot1_ne {τ : mMem} {w n : Nat} {h d : Int32} {i j : Nat} (hi : i ≠ w ∨ (j ≠ 0 ∧ j ≠ 3)) : hot1 τ w n h d i j = τ i j := by
  unfold hot1
  split
  · rfl
  · rw [mup_at, if_neg (by omega), mup_at, if_neg (by omega)]
theorem hotF_ne {τ : mMem} {b : Nat} {nc : Nat → Nat} {h d : Int32} {i j : Nat} (p : Nat) (hi : i < b ∨ (j ≠ 0 ∧ j ≠ 3) ∨ (i - b) % 3 ≠ 0) : hotF τ b nc h d p i j = τ i j := by
  induction p with
  | zero => rfl
  | succ p ih => rw [hotF, hot1_ne (by omega), ih]
theorem xFk_nightW {σ : mMem} {k np : Nat} {nc : Nat → Nat} {ld : Nat → Nat → Nat} {dy : Nat} (h : xFk σ k np nc ld) : xFk (nightW σ k np nc ld dy) k np nc ld := by
  have h1 := (xFk_ngA h rfl (Nat.le_refl np)).mup (a := 1 + k) (b := 4) (v := nI (dy + 1)) (by omega) (by omega) (by omega)
  unfold nightW
  refine h1.keep (hotF_ne np (by omega)) (fun p hp => hotF_ne np (by omega)) (fun p hp c hc => hotF_ne np (by omega))
theorem nightW_day (σ : mMem) (k np : Nat) (nc : Nat → Nat) (ld : Nat → Nat → Nat) (dy : Nat) : nightW σ k np nc ld dy (1 + k) 4 = nI (dy + 1) := by
  unfold nightW
  rw [hotF_ne np (by omega), mup_self]
def nitW (σ : mMem) (k np : Nat) (nc : Nat → Nat) (ld : Nat → Nat → Nat) (dy : Nat) : Nat → mMem
  | 0 => σ
  | c + 1 => nightW (nitW σ k np nc ld dy c) k np nc ld (dy + c)
/-- a coat between others -/
abbrev btw (c : Int32) (n : Nat) : Prop := 0 < c.toInt ∧ c.toInt < (n : Int) - 1
theorem btw_of {y c : Int32} {n : Nat} (h : y = nI n) (hn : n < 2 ^ 30) : (1 ≤ c ∧ c ≤ y - 2) ↔ btw c n := by
  rw [i_le, i_le, nI_m2 h hn, show (1 : Int32).toInt = 1 from rfl]
  unfold btw
  omega
def sav (σ : mMem) (nc : Nat → Nat) (ld : Nat → Nat → Nat) (a b : Nat) : Int32 := σ (30 + 3 * a + 1) (ld a (nc a - 1)) - σ (30 + 3 * a + 1) (ld b (nc b - 1))
def savI (σ : mMem) (nc : Nat → Nat) (ld : Nat → Nat → Nat) (a b : Nat) (c : Int32) : Int32 := if c < 0 then (if sav σ nc ld b a ≤ 0 ∨ sav σ nc ld a b ≤ 0 then -4 else sav σ nc ld b a + sav σ nc ld a b + 0) else (if sav σ nc ld b a ≤ 0 ∨ sav σ nc ld (tn c) b ≤ 0 ∨ sav σ nc ld a (tn c) ≤ 0 then -4 else sav σ nc ld b a + sav σ nc ld (tn c) b + sav σ nc ld a (tn c))
def gvF (σ : mMem) (w q : Nat) : Nat → mMem
  | 0 => σ
  | k + 1 => mup (mup (gvF σ w q k) (w + 2) (q + k) (gvF σ w q k 19 k)) 19 k (gvF σ w q k (w + 2) (q + k))
theorem gvF_ne {σ : mMem} {w q k i j : Nat} (h1 : i ≠ w + 2) (h2 : i ≠ 19) : gvF σ w q k i j = σ i j := by
  induction k with
  | zero => rfl
  | succ k ih => rw [gvF, mup_ne1 h2, mup_ne1 h1, ih]
def owS (σ : mMem) (nc : Nat → Nat) (g : Int32) : Nat → Int32
  | 0 => 0
  | p + 1 => owS σ nc g p + owm (ows (σ (30 + 3 * p + 2)) g (nc p))
def brs (σ : mMem) (w n dy : Nat) : Nat → Nat → Int32
  | 0, _ => -4
  | fu + 1, d => if thk (σ (w + 2)) n ≤ mx0 (σ w 2 - σ 7 (d / 30)) then brs σ w n dy fu (d + 1) else nI (d - dy)
def imgX (σ : mMem) : mMem := mup (mup (va_up (va_up (tkW σ 2 0) 24 (va_cpy (tkW σ 2 0 22) (tkW σ 2 0 24) 0 0 8)) 24 (va_cpy (tkW σ 2 0 23) (va_cpy (tkW σ 2 0 22) (tkW σ 2 0 24) 0 0 8) 0 8 8)) 0 23 (tkW σ 2 0 0 19)) 0 20 1
def rstX (σ : mMem) : mMem := mup (va_up (va_up (tkW σ 0 2) 22 (va_cpy (tkW σ 0 2 24) (tkW σ 0 2 22) 0 0 8)) 23 (va_cpy (tkW σ 0 2 24) (tkW σ 0 2 23) 8 0 8)) 0 19 (tkW σ 0 2 0 23)
set_option maxHeartbeats 4000000 in
set_option maxRecDepth 100000 in
theorem mt_X0_off (l : Launch) (D : va_G) (dA : Nat → ClassId) (rr : Nat → Option Nat) (xs : Nat → mSh) (ad : Nat → Nat) (N : Nat) (hA : xA ad N) (σ : mMem) (ru : Nat) (hru : σ 10 0 = nI ru) (hru3 : ru < 3) : Met l yX0_off (ws_ yX0_off cX0_off 1 (some (.object "DebtCoats$Outermost"))) ({ frames := 0, cells := 0, slots := 0, locals := 0 }) (va_Pc [.ref (ad 0)] (mPre D dA (shX rr xs) ad N σ)) (va_Sr (fun k : Nat => k = 14 + ru) (fun k => .ref (ad k))) 0 0 (fun _ => False) := by
  refine Met.ofW (cc := cX0_off) (maxL := 1) (ret := (some (.object "DebtCoats$Outermost"))) (by decide) rfl ?_
  intro pp ee ss mm args below meth cd s₁ B hml hv
  obtain ⟨rfl, hP, hE⟩ := hv
  have hx := B.exec
  have hb := B.bytes
  have hr := B.returns
  have hts := atoms_spec (ws := ws_ yX0_off cX0_off 1 (some (.object "DebtCoats$Outermost"))) B.pre
  have hts : ∀ w ∈ lw_all, w.before _ ss = true := fun w h => hts w (List.mem_cons_of_mem _ h)
  have hown : ss.vm.findClass RX0 = some mm.cls := findClass_of_methodNamed B.named
  have hlocks := B.notSynchronized
  have hNN := hA.1
  have hl := lv_entry ([.ref (ad 0)]) (n := 1) (Nat.le_of_ble_eq_true rfl)
  rw [lg_entry_eq]
  generalize (lg_sl ([.ref (ad 0)]) ++ List.replicate (1 - (lg_sl ([.ref (ad 0)])).length) Slot.unset).toArray = ls at hl ⊢
  have hl : lv_has ls 1 [(0, .ref (ad 0))] := hl
  refine lv_aload_n hx hb dX0_off_0 rfl (lv_at hl 0 rfl) ?_
  refine mg_ref hx hb hts in_X0 hown hE hP 0 (xl_n hA (by decide)) rfl rfl 0 rfl (by decide) (hts _ q264) (fun _ h9 => h9) dX0_off_1 ?_
  refine lv_aload_n hx hb dX0_off_4 rfl (lv_at hl 0 rfl) ?_
  refine mg_ref hx hb hts in_X0 hown hE hP 0 (xl_n hA (by decide)) rfl rfl 1 rfl (by decide) (hts _ q265) (fun _ h9 => h9) dX0_off_5 ?_
  refine mg_refN hx hb hts in_X4 hown hE hP 1 (xl_n hA (by decide)) rfl rfl 2 rfl (by decide) q149 (fun _ h9 => h9) dX0_off_8 ?_
  refine lv_iconst (v := 0) hx hb dX0_off_11 (by decide) ?_
  refine mg_ild hx hb hE hP 10 (xl_n hA (by decide)) rfl 0 (by omega) rfl (by decide) dX0_off_12 ?_
  refine mg_ald hx hb hE hP 13 (xl_n hA (by decide)) rfl rfl ru (by omega) hru (by decide) rfl dX0_off_13 ?_
  exact W.aret hx hb hr (Or.inl ⟨_, rfl⟩) (Or.inr ⟨_, rfl⟩) (fun t ht hW => ⟨14 + ru, rfl, rfl, ht⟩) (fun q hq => by cases hq) dX0_off_14
set_option maxHeartbeats 4000000 in
set_option maxRecDepth 100000 in
theorem mt_X0_pay (l : Launch) (D : va_G) (dA : Nat → ClassId) (rr : Nat → Option Nat) (xs : Nat → mSh) (ad : Nat → Nat) (N : Nat) (hA : xA ad N) (σ : mMem) (p c : Int32) (np : Nat) (nc : Nat → Nat) (ld : Nat → Nat → Nat) (hF : xF σ np nc ld) (ru : Nat) (hru : σ 10 0 = nI ru) (hru3 : ru < 3) : Met l yX0_pay (ws_ yX0_pay cX0_pay 4 (some .int)) ({ frames := 3, cells := 0, slots := 0, locals := 103 }) (va_Pc [.ref (ad 0), .int p, .int c] (mPre D dA (shX rr xs) ad N σ)) (va_Qi (fun (r : Int32) (u : mMem) => (if ik p np ∧ ik c (nc (tn p)) then (if lets_ ru c (σ (30 + 3 * tn p) 6) then (if σ (30 + 3 * tn p + 2) (4 * tn c + 1) ≤ σ (30 + 3 * tn p) 0 then (r = nI (nc (tn p) - 1) ∧ u = rmv (mup σ (30 + 3 * tn p) 0 (σ (30 + 3 * tn p) 0 - σ (30 + 3 * tn p + 2) (4 * (tn c) + 1))) (30 + 3 * tn p) (nc (tn p)) (tn c)) else (r = -4 ∧ u = σ)) else (r = -2 ∧ u = σ)) else (r = -1 ∧ u = σ))) (mB D dA (shX rr xs) ad N) (mAd ad N)) 0 0 (mAd ad N) := by
  refine Met.ofW (cc := cX0_pay) (maxL := 4) (ret := (some .int)) (by decide) rfl ?_
  intro pp ee ss mm args below meth cd s₁ B hml hv
  obtain ⟨rfl, hP, hE⟩ := hv
  have hx := B.exec
  have hb := B.bytes
  have hr := B.returns
  have hts := atoms_spec (ws := ws_ yX0_pay cX0_pay 4 (some .int)) B.pre
  have hts : ∀ w ∈ lw_all, w.before _ ss = true := fun w h => hts w (List.mem_cons_of_mem _ h)
  have hown : ss.vm.findClass RX0 = some mm.cls := findClass_of_methodNamed B.named
  have hlocks := B.notSynchronized
  have hD := hA.2.self
  have hS : va_S (mAd ad N) ss.heap ss.heap [] := va_S.rf
  have hNN := hA.1
  have hn5 := hF.n5
  have hl := lv_entry ([.ref (ad 0), .int p, .int c]) (n := 4) (Nat.le_of_ble_eq_true rfl)
  rw [lg_entry_eq]
  generalize (lg_sl ([.ref (ad 0), .int p, .int c]) ++ List.replicate (4 - (lg_sl ([.ref (ad 0), .int p, .int c])).length) Slot.unset).toArray = ls at hl ⊢
  have hl : lv_has ls 4 [(0, .ref (ad 0)), (1, .int p), (2, .int c)] := hl
  refine lv_aload_n hx hb dX0_pay_0 rfl (lv_at hl 0 rfl) ?_
  refine lv_iload_n hx hb dX0_pay_1 rfl (lv_at hl 1 rfl) ?_
  refine lv_iload_n hx hb dX0_pay_2 rfl (lv_at hl 2 rfl) ?_
  refine vp_callSi (W.runV (As := [.int p, .int c]) (rest := []) ⟨hx, hb, hml, hown, hts⟩ (mt_X0_isCoat l D dA rr xs ad N hA σ p c np nc ld hF) (cwV 2 hts (lw_V q382 q384 qs3 q45 q385) rfl rfl rfl (by decide +kernel) ⟨Nat.le_of_ble_eq_true rfl, Nat.le_of_ble_eq_true rfl⟩) ⟨mPre.blind, m_recv hE hP 0 (xl_n hA (by decide)) rfl rfl, mPre.at hE hP⟩ rfl rfl hl.1 rfl (lv_room (Nat.le_of_ble_eq_true rfl)) dX0_pay_3 ⟨Nat.le_of_ble_eq_true rfl, Nat.le_of_ble_eq_true rfl⟩) (fun r_1 hr_1 => ?_)
  subst hr_1
  refine lv_if_ne (tgt := 11) hx hb dX0_pay_6 (by decide) (fun c_2 => ?_) (fun c_2 => ?_)
  · have c_2 : ik p np ∧ ik c (nc (tn p)) := bi_t c_2
    obtain ⟨c_2_0, c_2_1⟩ := id c_2
    have c_2_0_lt := ik_lt c_2_0
    have c_2_0_m := hF.m c_2_0_lt
    have c_2_0_8 := hF.m8 c_2_0_lt
    have c_2_1_lt := ik_lt c_2_1
    refine lv_aload_n hx hb dX0_pay_11 rfl (lv_at hl 0 rfl) ?_
    refine mg_ref hx hb hts in_X0 hown hE hP 0 (xl_n hA (by decide)) rfl rfl 1 rfl (by decide) (hts _ q265) (fun _ h9 => h9) dX0_pay_12 ?_
    refine mg_refN hx hb hts in_X4 hown hE hP 1 (xl_n hA (by decide)) rfl rfl 0 rfl (by decide) q145 (fun _ h9 => h9) dX0_pay_15 ?_
    refine lv_iload_n hx hb dX0_pay_18 rfl (lv_at hl 1 rfl) ?_
    refine mg_ald hx hb hE hP 4 (xl_n hA (by decide)) rfl rfl (tn p) (by omega) (ik_eq c_2_0) (by decide) rfl dX0_pay_19 ?_
    refine lv_astore_n (lv' := [(3, .ref (ad (30 + 3 * (tn p)))), (0, .ref (ad 0)), (1, .int p), (2, .int c)]) hx hb dX0_pay_20 rfl hl (by decide) rfl (fun ls hl => ?_)
    refine lv_aload_n hx hb dX0_pay_21 rfl (lv_at hl 1 rfl) ?_
    refine va_csr (W.runV (As := []) (rest := []) ⟨hx, hb, hml, hown, hts⟩ (mt_X0_off l D dA rr xs ad N hA σ ru hru hru3) (cwV 0 hts (lw_V q455 q457 qs10 q45 q458) rfl rfl rfl (by decide +kernel) ⟨Nat.le_of_ble_eq_true rfl, Nat.le_of_ble_eq_true rfl⟩) ⟨mPre.blind, m_recv hE hP 0 (xl_n hA (by decide)) rfl rfl, mPre.at hE hP⟩ rfl rfl hl.1 rfl (lv_room (Nat.le_of_ble_eq_true rfl)) dX0_pay_22 ⟨Nat.le_of_ble_eq_true rfl, Nat.le_of_ble_eq_true rfl⟩) (fun r_3 hr_3 => ?_)
    subst hr_3
    refine lv_aload_n hx hb dX0_pay_25 rfl (lv_at hl 0 rfl) ?_
    refine lv_iload_n hx hb dX0_pay_26 rfl (lv_at hl 3 rfl) ?_
    refine mg_lets hA hx hb hml hown hts hE hP ru (by omega) (30 + 3 * (tn p)) (xw_p0 (p := tn p) (by omega)) c hl.1 (Nat.le_of_ble_eq_true rfl) ⟨Nat.le_of_ble_eq_true rfl, Nat.le_of_ble_eq_true rfl⟩ ⟨Nat.le_of_ble_eq_true rfl, Nat.le_of_ble_eq_true rfl⟩ dX0_pay_27 ?_
    refine lv_if_ne (tgt := 38) hx hb dX0_pay_30 (by decide) (fun c_4 => ?_) (fun c_4 => ?_)
    · have c_4 : lets_ ru c (σ (30 + 3 * (tn p)) 6) := bi_t c_4
      refine lv_aload_n hx hb dX0_pay_38 rfl (lv_at hl 0 rfl) ?_
      refine lv_iload_n hx hb dX0_pay_39 rfl (lv_at hl 3 rfl) ?_
      refine va_calli (va_runV (As := [.int c]) (rest := []) ⟨hx, hb, hml, hown, hts⟩ (mt_X5_pays l D dA rr xs ad N hA σ (30 + 3 * (tn p)) (xw_p0 (p := tn p) (by omega)) c (tn c) (ik_eq c_2_1) (nc (tn p)) c_2_0_m (by omega) (by omega)) (cwV 1 hts (lw_V q471 q472 q473 q50 q474) rfl rfl rfl (by decide +kernel) ⟨Nat.le_of_ble_eq_true rfl, Nat.le_of_ble_eq_true rfl⟩) ⟨mPre.blind, m_recv hE hP (30 + 3 * (tn p)) (xl_o hA (xw_p0 (p := tn p) (by omega))) (shX_o (xw_p0 (p := tn p) (by omega))) rfl, mPre.at hE hP⟩ rfl rfl hl.1 rfl (lv_room (Nat.le_of_ble_eq_true rfl)) dX0_pay_40 ⟨Nat.le_of_ble_eq_true rfl, Nat.le_of_ble_eq_true rfl⟩) hS (fun q _ h => h) (fun q h => h) (fun r_5 ur_5 tr_5 H locs ht h0 hr_5 hB h1 h2 hS => ?_)
      rcases hr_5 with ⟨hr_5, rfl, hu⟩ | ⟨hr_5, rfl, hu⟩
      · have hP := m_eq hu (mB.get ht hB)
        have hP : va_P D xCl (mW dA (shX rr xs) ad N (va_up (mup (mup σ (30 + 3 * (tn p)) 0 (σ (30 + 3 * (tn p)) 0 - σ (30 + 3 * (tn p) + 2) (4 * (tn c) + 1))) (30 + 3 * (tn p)) 6 (nI ((nc (tn p)) - 1))) (30 + 3 * (tn p) + 2) (va_cpy ((mup σ (30 + 3 * (tn p)) 0 (σ (30 + 3 * (tn p)) 0 - σ (30 + 3 * (tn p) + 2) (4 * (tn c) + 1))) (30 + 3 * (tn p) + 2)) ((mup σ (30 + 3 * (tn p)) 0 (σ (30 + 3 * (tn p)) 0 - σ (30 + 3 * (tn p) + 2) (4 * (tn c) + 1))) (30 + 3 * (tn p) + 2)) (4 * ((tn c) + 1)) (4 * (tn c)) (4 * ((nc (tn p)) - 1 - (tn c)))))) H := hP
        refine lv_if_eq (tgt := 53) hx hb dX0_pay_43 (by decide) (fun c_6 => ?_) (fun c_6 => ?_)
        · skip
          exact absurd c_6 (by decide)
        · skip
          refine lv_aload_n hx hb dX0_pay_46 rfl (lv_at hl 0 rfl) ?_
          refine mg_getN hx hb hts in_X5 hown hE hP (30 + 3 * (tn p)) (xl_o hA (xw_p0 (p := tn p) (by omega))) (shX_o (xw_p0 (p := tn p) (by omega))) rfl 6 rfl (by decide) q127 (fun _ h9 => h9) dX0_pay_47 ?_
          refine lv_rwi ((mv_row (by omega)).trans (mup_self _ _ _ _)) ?_
          refine lv_goto (tgt := 55) hx hb dX0_pay_50 (by decide) ?_
          exact W.iret (v := (nI ((nc (tn p)) - 1))) hx hb hr (fun t ht hW => ⟨⟨_, _, rfl, by dsimp only; rw [if_pos c_2, if_pos c_4, if_pos hr_5]; exact ⟨rfl, rfl⟩, mB.of ht hP⟩, hS.F ht⟩) hS.2.2 dX0_pay_55
      · have hP := m_eq hu (mB.get ht hB)
        refine lv_if_eq (tgt := 53) hx hb dX0_pay_43 (by decide) (fun c_7 => ?_) (fun c_7 => ?_)
        · skip
          refine lv_bipush (v := (-4)) hx hb dX0_pay_53 (by decide) ?_
          exact W.iret (v := (-4)) hx hb hr (fun t ht hW => ⟨⟨_, _, rfl, by dsimp only; rw [if_pos c_2, if_pos c_4, if_neg hr_5]; exact ⟨rfl, rfl⟩, mB.of ht hP⟩, hS.F ht⟩) hS.2.2 dX0_pay_55
        · skip
          exact absurd c_7 (by decide)
    · have c_4 : ¬ (lets_ ru c (σ (30 + 3 * (tn p)) 6)) := bi_f c_4
      refine lv_bipush (v := (-2)) hx hb dX0_pay_33 (by decide) ?_
      refine lv_goto (tgt := 55) hx hb dX0_pay_35 (by decide) ?_
      exact W.iret (v := (-2)) hx hb hr (fun t ht hW => ⟨⟨_, _, rfl, by dsimp only; rw [if_pos c_2, if_neg c_4]; exact ⟨rfl, rfl⟩, mB.of ht hP⟩, hS.F ht⟩) hS.2.2 dX0_pay_55
  · have c_2 : ¬ (ik p np ∧ ik c (nc (tn p))) := bi_f c_2
    refine lv_iconst (v := (-1)) hx hb dX0_pay_9 (by decide) ?_
    exact W.iret (v := (-1)) hx hb hr (fun t ht hW => ⟨⟨_, _, rfl, by dsimp only; rw [if_neg c_2]; exact ⟨rfl, rfl⟩, mB.of ht hP⟩, hS.F ht⟩) hS.2.2 dX0_pay_10
set_option maxHeartbeats 4000000 in
set_option maxRecDepth 100000 in
theorem mt_X0_take (l : Launch) (D : va_G) (dA : Nat → ClassId) (rr : Nat → Option Nat) (xs : Nat → mSh) (ad : Nat → Nat) (N : Nat) (hA : xA ad N) (σ : mMem) (p g a t d : Int32) (np : Nat) (nc : Nat → Nat) (ld : Nat → Nat → Nat) (hF : xF σ np nc ld) : Met l yX0_take (ws_ yX0_take cX0_take 7 (some .int)) ({ frames := 2, cells := 0, slots := 0, locals := 43 }) (va_Pc [.ref (ad 0), .int p, .int g, .int a, .int t, .int d] (mPre D dA (shX rr xs) ad N σ)) (va_Qi (fun (r : Int32) (u : mMem) => (if ik p np then (if ik g 5 then (if iv a 1 9999 then (if ik t 21 then (if iv d 1 9 then (if nc (tn p) = 8 then (r = -3 ∧ u = σ) else (r = nI (nc (tn p) + 1) ∧ u = (mup (mup (mup (mup (mup (mup σ (30 + 3 * tn p + 2) (4 * nc (tn p)) g) (30 + 3 * tn p + 2) (4 * nc (tn p) + 1) a) (30 + 3 * tn p + 2) (4 * nc (tn p) + 2) t) (30 + 3 * tn p + 2) (4 * nc (tn p) + 3) d) (30 + 3 * tn p) 6 (nI (nc (tn p) + 1))) (30 + 3 * tn p) 0 (mn9 (σ (30 + 3 * tn p) 0 + a))))) else (r = -1 ∧ u = σ)) else (r = -1 ∧ u = σ)) else (r = -1 ∧ u = σ)) else (r = -1 ∧ u = σ)) else (r = -1 ∧ u = σ))) (mB D dA (shX rr xs) ad N) (mAd ad N)) 0 0 (mAd ad N) := by
  refine Met.ofW (cc := cX0_take) (maxL := 7) (ret := (some .int)) (by decide) rfl ?_
  intro pp ee ss mm args below meth cd s₁ B hml hv
  obtain ⟨rfl, hP, hE⟩ := hv
  have hx := B.exec
  have hb := B.bytes
  have hr := B.returns
  have hts := atoms_spec (ws := ws_ yX0_take cX0_take 7 (some .int)) B.pre
  have hts : ∀ w ∈ lw_all, w.before _ ss = true := fun w h => hts w (List.mem_cons_of_mem _ h)
  have hown : ss.vm.findClass RX0 = some mm.cls := findClass_of_methodNamed B.named
  have hlocks := B.notSynchronized
  have hD := hA.2.self
  have hS : va_S (mAd ad N) ss.heap ss.heap [] := va_S.rf
  have hNN := hA.1
  have hn5 := hF.n5
  have hl := lv_entry ([.ref (ad 0), .int p, .int g, .int a, .int t, .int d]) (n := 7) (Nat.le_of_ble_eq_true rfl)
  rw [lg_entry_eq]
  generalize (lg_sl ([.ref (ad 0), .int p, .int g, .int a, .int t, .int d]) ++ List.replicate (7 - (lg_sl ([.ref (ad 0), .int p, .int g, .int a, .int t, .int d])).length) Slot.unset).toArray = ls at hl ⊢
  have hl : lv_has ls 7 [(0, .ref (ad 0)), (1, .int p), (2, .int g), (3, .int a), (4, .int t), (5, .int d)] := hl
  refine lv_aload_n hx hb dX0_take_0 rfl (lv_at hl 0 rfl) ?_
  refine lv_iload_n hx hb dX0_take_1 rfl (lv_at hl 1 rfl) ?_
  refine vp_callSi (W.runV (As := [.int p]) (rest := []) ⟨hx, hb, hml, hown, hts⟩ (mt_X0_isPerson l D dA rr xs ad N hA σ p np hF.n hF.n5) (cwV 1 hts (lw_V q355 q357 qs2 q45 q358) rfl rfl rfl (by decide +kernel) ⟨Nat.le_of_ble_eq_true rfl, Nat.le_of_ble_eq_true rfl⟩) ⟨mPre.blind, m_recv hE hP 0 (xl_n hA (by decide)) rfl rfl, mPre.at hE hP⟩ rfl rfl hl.1 rfl (lv_room (Nat.le_of_ble_eq_true rfl)) dX0_take_2 ⟨Nat.le_of_ble_eq_true rfl, Nat.le_of_ble_eq_true rfl⟩) (fun r_1 hr_1 => ?_)
  subst hr_1
  refine lv_if_eq (tgt := 48) hx hb dX0_take_5 (by decide) (fun c_2 => ?_) (fun c_2 => ?_)
  · have c_2 : ¬ (ik p np) := bi_f c_2
    refine lv_iconst (v := (-1)) hx hb dX0_take_48 (by decide) ?_
    exact W.iret (v := (-1)) hx hb hr (fun t ht hW => ⟨⟨_, _, rfl, by dsimp only; rw [if_neg c_2]; exact ⟨rfl, rfl⟩, mB.of ht hP⟩, hS.F ht⟩) hS.2.2 dX0_take_49
  · have c_2 : ik p np := bi_t c_2
    have c_2_lt := ik_lt c_2
    have c_2_m := hF.m c_2_lt
    have c_2_8 := hF.m8 c_2_lt
    refine lv_iload_n hx hb dX0_take_8 rfl (lv_at hl 2 rfl) ?_
    refine vp_callSi (W.runS (As := [.int g]) (rest := []) ⟨hx, hb, hml, hown, hts⟩ (mt_X0_isLender l g) (va_cwS 1 hts (lw_S q390 q391 q45 q392) rfl rfl rfl (by decide +kernel) ⟨Nat.le_of_ble_eq_true rfl, Nat.le_of_ble_eq_true rfl⟩) ⟨fun _ _ _ _ h => h, fun _ _ _ => ⟨rfl, trivial⟩⟩ rfl rfl hl.1 rfl (lv_room (Nat.le_of_ble_eq_true rfl)) dX0_take_9 ⟨Nat.le_of_ble_eq_true rfl, Nat.le_of_ble_eq_true rfl⟩) (fun r_3 hr_3 => ?_)
    subst hr_3
    refine lv_if_eq (tgt := 48) hx hb dX0_take_12 (by decide) (fun c_4 => ?_) (fun c_4 => ?_)
    · have c_4 : ¬ (ik g 5) := bi_f c_4
      refine lv_iconst (v := (-1)) hx hb dX0_take_48 (by decide) ?_
      exact W.iret (v := (-1)) hx hb hr (fun t ht hW => ⟨⟨_, _, rfl, by dsimp only; rw [if_pos c_2, if_neg c_4]; exact ⟨rfl, rfl⟩, mB.of ht hP⟩, hS.F ht⟩) hS.2.2 dX0_take_49
    · have c_4 : ik g 5 := bi_t c_4
      have c_4_lt := ik_lt c_4
      refine lv_iload_n hx hb dX0_take_15 rfl (lv_at hl 3 rfl) ?_
      refine lv_iconst (v := 1) hx hb dX0_take_16 (by decide) ?_
      refine lv_sipush (v := 9999) hx hb dX0_take_17 (by decide) ?_
      refine vp_callSi (W.runS (As := [.int a, .int 1, .int 9999]) (rest := []) ⟨hx, hb, hml, hown, hts⟩ (mt_X0_isIn l a 1 9999) (va_cwS 3 hts (lw_S q344 q345 q45 q346) rfl rfl rfl (by decide +kernel) ⟨Nat.le_of_ble_eq_true rfl, Nat.le_of_ble_eq_true rfl⟩) ⟨fun _ _ _ _ h => h, fun _ _ _ => ⟨rfl, trivial⟩⟩ rfl rfl hl.1 rfl (lv_room (Nat.le_of_ble_eq_true rfl)) dX0_take_20 ⟨Nat.le_of_ble_eq_true rfl, Nat.le_of_ble_eq_true rfl⟩) (fun r_5 hr_5 => ?_)
      subst hr_5
      refine lv_rwi (bi_c (iv_of rfl rfl)) ?_
      refine lv_if_eq (tgt := 48) hx hb dX0_take_23 (by decide) (fun c_6 => ?_) (fun c_6 => ?_)
      · have c_6 : ¬ (iv a 1 9999) := bi_f c_6
        refine lv_iconst (v := (-1)) hx hb dX0_take_48 (by decide) ?_
        exact W.iret (v := (-1)) hx hb hr (fun t ht hW => ⟨⟨_, _, rfl, by dsimp only; rw [if_pos c_2, if_pos c_4, if_neg c_6]; exact ⟨rfl, rfl⟩, mB.of ht hP⟩, hS.F ht⟩) hS.2.2 dX0_take_49
      · have c_6 : iv a 1 9999 := bi_t c_6
        have c_6_tn := iv_tn c_6 (by decide)
        refine lv_iload hx hb dX0_take_26 (lv_at hl 4 rfl) ?_
        refine lv_iconst (v := 0) hx hb dX0_take_28 (by decide) ?_
        refine lv_bipush (v := 20) hx hb dX0_take_29 (by decide) ?_
        refine vp_callSi (W.runS (As := [.int t, .int 0, .int 20]) (rest := []) ⟨hx, hb, hml, hown, hts⟩ (mt_X0_isIn l t 0 20) (va_cwS 3 hts (lw_S q344 q345 q45 q346) rfl rfl rfl (by decide +kernel) ⟨Nat.le_of_ble_eq_true rfl, Nat.le_of_ble_eq_true rfl⟩) ⟨fun _ _ _ _ h => h, fun _ _ _ => ⟨rfl, trivial⟩⟩ rfl rfl hl.1 rfl (lv_room (Nat.le_of_ble_eq_true rfl)) dX0_take_31 ⟨Nat.le_of_ble_eq_true rfl, Nat.le_of_ble_eq_true rfl⟩) (fun r_7 hr_7 => ?_)
        subst hr_7
        refine lv_rwi (bi_c (ik_of (n := 21) rfl rfl)) ?_
        refine lv_if_eq (tgt := 48) hx hb dX0_take_34 (by decide) (fun c_8 => ?_) (fun c_8 => ?_)
        · have c_8 : ¬ (ik t 21) := bi_f c_8
          refine lv_iconst (v := (-1)) hx hb dX0_take_48 (by decide) ?_
          exact W.iret (v := (-1)) hx hb hr (fun t ht hW => ⟨⟨_, _, rfl, by dsimp only; rw [if_pos c_2, if_pos c_4, if_pos c_6, if_neg c_8]; exact ⟨rfl, rfl⟩, mB.of ht hP⟩, hS.F ht⟩) hS.2.2 dX0_take_49
        · have c_8 : ik t 21 := bi_t c_8
          have c_8_lt := ik_lt c_8
          refine lv_iload hx hb dX0_take_37 (lv_at hl 5 rfl) ?_
          refine lv_iconst (v := 1) hx hb dX0_take_39 (by decide) ?_
          refine lv_bipush (v := 9) hx hb dX0_take_40 (by decide) ?_
          refine vp_callSi (W.runS (As := [.int d, .int 1, .int 9]) (rest := []) ⟨hx, hb, hml, hown, hts⟩ (mt_X0_isIn l d 1 9) (va_cwS 3 hts (lw_S q344 q345 q45 q346) rfl rfl rfl (by decide +kernel) ⟨Nat.le_of_ble_eq_true rfl, Nat.le_of_ble_eq_true rfl⟩) ⟨fun _ _ _ _ h => h, fun _ _ _ => ⟨rfl, trivial⟩⟩ rfl rfl hl.1 rfl (lv_room (Nat.le_of_ble_eq_true rfl)) dX0_take_42 ⟨Nat.le_of_ble_eq_true rfl, Nat.le_of_ble_eq_true rfl⟩) (fun r_9 hr_9 => ?_)
          subst hr_9
          refine lv_rwi (bi_c (iv_of rfl rfl)) ?_
          refine lv_if_ne (tgt := 50) hx hb dX0_take_45 (by decide) (fun c_10 => ?_) (fun c_10 => ?_)
          · have c_10 : iv d 1 9 := bi_t c_10
            have c_10_tn := iv_tn c_10 (by decide)
            refine lv_aload_n hx hb dX0_take_50 rfl (lv_at hl 0 rfl) ?_
            refine mg_ref hx hb hts in_X0 hown hE hP 0 (xl_n hA (by decide)) rfl rfl 1 rfl (by decide) (hts _ q265) (fun _ h9 => h9) dX0_take_51 ?_
            refine mg_refN hx hb hts in_X4 hown hE hP 1 (xl_n hA (by decide)) rfl rfl 0 rfl (by decide) q145 (fun _ h9 => h9) dX0_take_54 ?_
            refine lv_iload_n hx hb dX0_take_57 rfl (lv_at hl 1 rfl) ?_
            refine mg_ald hx hb hE hP 4 (xl_n hA (by decide)) rfl rfl (tn p) (by omega) (ik_eq c_2) (by decide) rfl dX0_take_58 ?_
            refine lv_astore (lv' := [(6, .ref (ad (30 + 3 * (tn p)))), (0, .ref (ad 0)), (1, .int p), (2, .int g), (3, .int a), (4, .int t), (5, .int d)]) hx hb dX0_take_59 hl (by decide) rfl (fun ls hl => ?_)
            refine lv_aload hx hb dX0_take_61 (lv_at hl 0 rfl) ?_
            refine mg_getN hx hb hts in_X5 hown hE hP (30 + 3 * (tn p)) (xl_o hA (xw_p0 (p := tn p) (by omega))) (shX_o (xw_p0 (p := tn p) (by omega))) rfl 6 rfl (by decide) q127 (fun _ h9 => h9) dX0_take_63 ?_
            refine lv_bipush (v := 8) hx hb dX0_take_66 (by decide) ?_
            refine lv_icmp_ne (tgt := 74) hx hb dX0_take_68 (by decide) (fun c_11 => ?_) (fun c_11 => ?_)
            · have nc_11 : nc (tn p) ≠ 8 := mi_ne c_2_m rfl (by omega) (by omega) c_11
              refine lv_aload hx hb dX0_take_74 (lv_at hl 0 rfl) ?_
              refine lv_iload_n hx hb dX0_take_76 rfl (lv_at hl 3 rfl) ?_
              refine lv_iload_n hx hb dX0_take_77 rfl (lv_at hl 4 rfl) ?_
              refine lv_iload hx hb dX0_take_78 (lv_at hl 5 rfl) ?_
              refine lv_iload hx hb dX0_take_80 (lv_at hl 6 rfl) ?_
              refine va_callv (va_runV (As := [.int g, .int a, .int t, .int d]) (rest := []) ⟨hx, hb, hml, hown, hts⟩ (mt_X5_put l D dA rr xs ad N hA σ (30 + 3 * (tn p)) (xw_p0 (p := tn p) (by omega)) g a t d (nc (tn p)) c_2_m (by omega)) (cwV 4 hts (lw_V q439 q440 q441 q50 q442) rfl rfl rfl (by decide +kernel) ⟨Nat.le_of_ble_eq_true rfl, Nat.le_of_ble_eq_true rfl⟩) ⟨mPre.blind, m_recv hE hP (30 + 3 * (tn p)) (xl_o hA (xw_p0 (p := tn p) (by omega))) (shX_o (xw_p0 (p := tn p) (by omega))) rfl, mPre.at hE hP⟩ rfl rfl hl.1 rfl (lv_room (Nat.le_of_ble_eq_true rfl)) dX0_take_82 ⟨Nat.le_of_ble_eq_true rfl, Nat.le_of_ble_eq_true rfl⟩) hS (fun q _ h => h) (fun q h => h) (fun ur_12 tr_12 H locs ht h0 hr_12 hB h1 h2 hS => ?_)
              subst hr_12
              have hP := mB.get ht hB
              refine lv_aload hx hb dX0_take_85 (lv_at hl 0 rfl) ?_
              refine lv_ldc hx hb hown (hts _ q450) dX0_take_87 ?_
              refine lv_aload hx hb dX0_take_89 (lv_at hl 0 rfl) ?_
              refine mg_getN hx hb hts in_X5 hown hE hP (30 + 3 * (tn p)) (xl_o hA (xw_p0 (p := tn p) (by omega))) (shX_o (xw_p0 (p := tn p) (by omega))) rfl 0 rfl (by decide) q112 (fun _ h9 => h9) dX0_take_91 ?_
              refine lv_rwi ((mup_ne2 (by omega)).trans ((mup_ne1 (by omega)).trans ((mup_ne1 (by omega)).trans ((mup_ne1 (by omega)).trans (mup_ne1 (by omega)))))) ?_
              refine lv_iload_n hx hb dX0_take_94 rfl (lv_at hl 4 rfl) ?_
              refine lv_iadd hx hb dX0_take_95 ?_
              refine va_mmin hx hb (by rw [hml]; exact hl.1.symm) hown (hts _ q375) (hts _ q376) (hts _ q56) (hts _ q377) (Nat.le_of_ble_eq_true rfl) (Nat.le_of_ble_eq_true rfl) (Nat.le_of_ble_eq_true rfl) (Nat.le_of_ble_eq_true rfl) dX0_take_96 ?_
              refine mg_putN (v := (if (σ (30 + 3 * (tn p)) 0 + a) < 999999 then (σ (30 + 3 * (tn p)) 0 + a) else 999999)) (ty := .int) hx hb hts in_X5 tyX5 tyX5_ok nmX5 hown hE hD hP hS (30 + 3 * (tn p)) (xl_o hA (xw_p0 (p := tn p) (by omega))) (shX_o (xw_p0 (p := tn p) (by omega))) rfl 0 rfl (by decide) q112 (fun _ h9 => h9) rfl (by decide +kernel) rfl rfl dX0_take_99 (fun H locs hP hS => ?_)
              refine lv_aload hx hb dX0_take_102 (lv_at hl 0 rfl) ?_
              refine mg_getN hx hb hts in_X5 hown hE hP (30 + 3 * (tn p)) (xl_o hA (xw_p0 (p := tn p) (by omega))) (shX_o (xw_p0 (p := tn p) (by omega))) rfl 6 rfl (by decide) q127 (fun _ h9 => h9) dX0_take_104 ?_
              refine lv_rwi ((mup_ne2 (by omega)).trans (mup_self _ _ _ _)) ?_
              exact W.iret (v := (nI (nc (tn p) + 1))) hx hb hr (fun t ht hW => ⟨⟨_, _, rfl, by dsimp only; rw [if_pos c_2, if_pos c_4, if_pos c_6, if_pos c_8, if_pos c_10, if_neg nc_11]; exact ⟨rfl, rfl⟩, mB.of ht hP⟩, hS.F ht⟩) hS.2.2 dX0_take_107
            · have nc_11 : nc (tn p) = 8 := mi_eq c_2_m rfl (by omega) (by omega) c_11
              refine lv_bipush (v := (-3)) hx hb dX0_take_71 (by decide) ?_
              exact W.iret (v := (-3)) hx hb hr (fun t ht hW => ⟨⟨_, _, rfl, by dsimp only; rw [if_pos c_2, if_pos c_4, if_pos c_6, if_pos c_8, if_pos c_10, if_pos nc_11]; exact ⟨rfl, rfl⟩, mB.of ht hP⟩, hS.F ht⟩) hS.2.2 dX0_take_73
          · have c_10 : ¬ (iv d 1 9) := bi_f c_10
            refine lv_iconst (v := (-1)) hx hb dX0_take_48 (by decide) ?_
            exact W.iret (v := (-1)) hx hb hr (fun t ht hW => ⟨⟨_, _, rfl, by dsimp only; rw [if_pos c_2, if_pos c_4, if_pos c_6, if_pos c_8, if_neg c_10]; exact ⟨rfl, rfl⟩, mB.of ht hP⟩, hS.F ht⟩) hS.2.2 dX0_take_49
set_option maxHeartbeats 4000000 in
set_option maxRecDepth 100000 in
theorem mt_X0_nights (l : Launch) (D : va_G) (dA : Nat → ClassId) (rr : Nat → Option Nat) (xs : Nat → mSh) (ad : Nat → Nat) (N : Nat) (hA : xA ad N) (σ : mMem) (a : Int32) (np : Nat) (nc : Nat → Nat) (ld : Nat → Nat → Nat) (hF : xF σ np nc ld) (dy : Nat) (hdy0 : σ 1 4 = nI dy) (hdy : dy < 360) : Met l yX0_nights (ws_ yX0_nights cX0_nights 3 (some .int)) ({ frames := 3, cells := 0, slots := 0, locals := 65 }) (va_Pc [.ref (ad 0), .int a] (mPre D dA (shX rr xs) ad N σ)) (va_Qi (fun (r : Int32) (u : mMem) => (if iv a 1 60 then (if dy + tn a ≤ 359 then (r = nI (dy + tn a) ∧ u = nitW σ 0 np nc ld dy (tn a)) else (r = -3 ∧ u = σ)) else (r = -1 ∧ u = σ))) (mB D dA (shX rr xs) ad N) (mAd ad N)) 0 0 (mAd ad N) := by
  refine Met.ofW (cc := cX0_nights) (maxL := 3) (ret := (some .int)) (by decide) rfl ?_
  intro pp ee ss mm args below meth cd s₁ B hml hv
  obtain ⟨rfl, hP, hE⟩ := hv
  have hx := B.exec
  have hb := B.bytes
  have hr := B.returns
  have hts := atoms_spec (ws := ws_ yX0_nights cX0_nights 3 (some .int)) B.pre
  have hts : ∀ w ∈ lw_all, w.before _ ss = true := fun w h => hts w (List.mem_cons_of_mem _ h)
  have hown : ss.vm.findClass RX0 = some mm.cls := findClass_of_methodNamed B.named
  have hlocks := B.notSynchronized
  have hD := hA.2.self
  have hS : va_S (mAd ad N) ss.heap ss.heap [] := va_S.rf
  have hNN := hA.1
  have hn5 := hF.n5
  have hl := lv_entry ([.ref (ad 0), .int a]) (n := 3) (Nat.le_of_ble_eq_true rfl)
  rw [lg_entry_eq]
  generalize (lg_sl ([.ref (ad 0), .int a]) ++ List.replicate (3 - (lg_sl ([.ref (ad 0), .int a])).length) Slot.unset).toArray = ls at hl ⊢
  have hl : lv_has ls 3 [(0, .ref (ad 0)), (1, .int a)] := hl
  refine lv_iload_n hx hb dX0_nights_0 rfl (lv_at hl 1 rfl) ?_
  refine lv_iconst (v := 1) hx hb dX0_nights_1 (by decide) ?_
  refine lv_bipush (v := 60) hx hb dX0_nights_2 (by decide) ?_
  refine vp_callSi (W.runS (As := [.int a, .int 1, .int 60]) (rest := []) ⟨hx, hb, hml, hown, hts⟩ (mt_X0_isIn l a 1 60) (va_cwS 3 hts (lw_S q344 q345 q45 q346) rfl rfl rfl (by decide +kernel) ⟨Nat.le_of_ble_eq_true rfl, Nat.le_of_ble_eq_true rfl⟩) ⟨fun _ _ _ _ h => h, fun _ _ _ => ⟨rfl, trivial⟩⟩ rfl rfl hl.1 rfl (lv_room (Nat.le_of_ble_eq_true rfl)) dX0_nights_4 ⟨Nat.le_of_ble_eq_true rfl, Nat.le_of_ble_eq_true rfl⟩) (fun r_1 hr_1 => ?_)
  subst hr_1
  refine lv_rwi (bi_c (iv_of rfl rfl)) ?_
  refine lv_if_ne (tgt := 12) hx hb dX0_nights_7 (by decide) (fun c_2 => ?_) (fun c_2 => ?_)
  · have c_2 : iv a 1 60 := bi_t c_2
    have c_2_tn := iv_tn c_2 (by decide)
    refine lv_aload_n hx hb dX0_nights_12 rfl (lv_at hl 0 rfl) ?_
    refine mg_ref hx hb hts in_X0 hown hE hP 0 (xl_n hA (by decide)) rfl rfl 1 rfl (by decide) (hts _ q265) (fun _ h9 => h9) dX0_nights_13 ?_
    refine mg_getN hx hb hts in_X4 hown hE hP 1 (xl_n hA (by decide)) rfl rfl 4 rfl (by decide) q153 (fun _ h9 => h9) dX0_nights_16 ?_
    refine lv_iload_n hx hb dX0_nights_19 rfl (lv_at hl 1 rfl) ?_
    refine lv_iadd hx hb dX0_nights_20 ?_
    refine lv_sipush (v := 359) hx hb dX0_nights_21 (by decide) ?_
    refine lv_icmp_le (tgt := 30) hx hb dX0_nights_24 (by decide) (fun c_3 => ?_) (fun c_3 => ?_)
    · have nc_3 : dy + tn a ≤ 359 := mi_le (mi_add hdy0 (iv_eq c_2 (by decide))) rfl (by omega) (by omega) c_3
      refine lv_iconst (v := 0) hx hb dX0_nights_30 (by decide) ?_
      refine lv_istore_n (lv' := [(2, .int 0), (0, .ref (ad 0)), (1, .int a)]) hx hb dX0_nights_31 rfl hl (by decide) rfl (fun ls hl => ?_)
      have lp32 : ∀ (fu : Nat) (c : Nat) (τ : mMem) (_ : c ≤ tn a) (_ : τ = nitW σ 0 np nc ld dy c) (_ : xFk τ 0 np nc ld) (_ : τ 1 4 = nI (dy + c)) (_ : tn a - c < fu) (H : Heap) (locs : List Loc) (_ : va_P D xCl (mW dA (shX rr xs) ad N τ) H) (_ : va_S (mAd ad N) ss.heap H locs) (ls : Array Slot) (_ : lv_has ls 3 [(2, .int (nI c)), (0, .ref (ad 0)), (1, .int a)]), W pp l ee (headSpec (ws_ yX0_nights cX0_nights 3 (some .int)) ({ frames := 3, cells := 0, slots := 0, locals := 65 })).room ss mm ([.ref (ad 0), .int a] : List Value).toArray below meth cd H locs 0 0 (MQ below (va_Qi (fun (r : Int32) (u : mMem) => (if iv a 1 60 then (if dy + tn a ≤ 359 then (r = nI (dy + tn a) ∧ u = nitW σ 0 np nc ld dy (tn a)) else (r = -3 ∧ u = σ)) else (r = -1 ∧ u = σ))) (mB D dA (shX rr xs) ad N) (mAd ad N)) ([.ref (ad 0), .int a] : List Value).toArray ss 0 0 (mAd ad N)) (F0 mm 32 ls []) := by
        intro fu
        induction fu with
        | zero => intro c τ hc hτ hF1 hd1 hfu; exact absurd hfu (Nat.not_lt_zero _)
        | succ fu ih32 =>
          intro c τ hc hτ hF1 hd1 hfu H locs hP hS ls hl
          refine lv_iload_n hx hb dX0_nights_32 rfl (lv_at hl 0 rfl) ?_
          refine lv_iload_n hx hb dX0_nights_33 rfl (lv_at hl 2 rfl) ?_
          refine lv_icmp_ge (tgt := 50) hx hb dX0_nights_34 (by decide) (fun c_4 => ?_) (fun c_4 => ?_)
          · have nc_4 : tn a ≤ c := mi_le (iv_eq c_2 (by decide)) rfl (by omega) (by omega) c_4
            refine lv_aload_n hx hb dX0_nights_50 rfl (lv_at hl 1 rfl) ?_
            refine mg_ref hx hb hts in_X0 hown hE hP 0 (xl_n hA (by decide)) rfl rfl 1 rfl (by decide) (hts _ q265) (fun _ h9 => h9) dX0_nights_51 ?_
            refine mg_getN hx hb hts in_X4 hown hE hP 1 (xl_n hA (by decide)) rfl rfl 4 rfl (by decide) q153 (fun _ h9 => h9) dX0_nights_54 ?_
            exact W.iret (v := τ 1 4) hx hb hr (fun t ht hW => ⟨⟨_, _, rfl, by dsimp only; rw [if_pos c_2, if_pos (by omega)]; exact ⟨by rw [hd1, show c = tn a by omega], by rw [hτ, show c = tn a by omega]⟩, mB.of ht hP⟩, hS.F ht⟩) hS.2.2 dX0_nights_57
          · have nc_4 : c < tn a := mi_nle (iv_eq c_2 (by decide)) rfl (by omega) (by omega) c_4
            refine lv_aload_n hx hb dX0_nights_37 rfl (lv_at hl 1 rfl) ?_
            refine mg_ref hx hb hts in_X0 hown hE hP 0 (xl_n hA (by decide)) rfl rfl 1 rfl (by decide) (hts _ q265) (fun _ h9 => h9) dX0_nights_38 ?_
            refine va_callv (va_runV (As := []) (rest := []) ⟨hx, hb, hml, hown, hts⟩ (mt_X4_night_0 l D dA rr xs ad N hA τ np nc ld hF1 (dy + c) hd1 (by omega)) (cwV 0 hts (lw_V q485 q486 q487 q49 q488) rfl rfl rfl (by decide +kernel) ⟨Nat.le_of_ble_eq_true rfl, Nat.le_of_ble_eq_true rfl⟩) ⟨mPre.blind, m_recv hE hP 1 (xl_n hA (by decide)) rfl rfl, mPre.at hE hP⟩ rfl rfl hl.1 rfl (lv_room (Nat.le_of_ble_eq_true rfl)) dX0_nights_41 ⟨Nat.le_of_ble_eq_true rfl, Nat.le_of_ble_eq_true rfl⟩) hS (fun q _ h => h) (fun q h => h) (fun ur_5 tr_5 H locs ht h0 hr_5 hB h1 h2 hS => ?_)
            subst hr_5
            have hP := mB.get ht hB
            refine lv_iinc (v := (nI (c + 1))) (lv' := [(2, .int (nI (c + 1))), (0, .ref (ad 0)), (1, .int a)]) hx hb dX0_nights_44 hl (k := 0) rfl (mi_add rfl rfl) (by decide) rfl (fun ls hl => ?_)
            refine lv_goto (tgt := 32) hx hb dX0_nights_47 (by decide) ?_
            exact ih32  (c + 1) (nightW τ 0 np nc ld (dy + c)) (by omega) (by rw [hτ]; rfl) (xFk_nightW hF1) (nightW_day _ _ _ _ _ _) (by omega) _ _ hP hS ls (lv_sub hl [0, 1, 2] rfl)
      exact lp32 (tn a - 0 + 1) 0 σ (by omega) rfl hF hdy0 (by omega) _ _ hP hS ls (lv_sub hl [0, 1, 2] rfl)
    · have nc_3 : 359 < dy + tn a := mi_nle (mi_add hdy0 (iv_eq c_2 (by decide))) rfl (by omega) (by omega) c_3
      refine lv_bipush (v := (-3)) hx hb dX0_nights_27 (by decide) ?_
      exact W.iret (v := (-3)) hx hb hr (fun t ht hW => ⟨⟨_, _, rfl, by dsimp only; rw [if_pos c_2, if_neg (by omega)]; exact ⟨rfl, rfl⟩, mB.of ht hP⟩, hS.F ht⟩) hS.2.2 dX0_nights_29
  · have c_2 : ¬ (iv a 1 60) := bi_f c_2
    refine lv_iconst (v := (-1)) hx hb dX0_nights_10 (by decide) ?_
    exact W.iret (v := (-1)) hx hb hr (fun t ht hW => ⟨⟨_, _, rfl, by dsimp only; rw [if_neg c_2]; exact ⟨rfl, rfl⟩, mB.of ht hP⟩, hS.F ht⟩) hS.2.2 dX0_nights_11
set_option maxHeartbeats 4000000 in
set_option maxRecDepth 100000 in
theorem mt_X0_isBetween (l : Launch) (D : va_G) (dA : Nat → ClassId) (rr : Nat → Option Nat) (xs : Nat → mSh) (ad : Nat → Nat) (N : Nat) (hA : xA ad N) (σ : mMem) (p c : Int32) (np : Nat) (nc : Nat → Nat) (ld : Nat → Nat → Nat) (hF : xF σ np nc ld) (hp : ik p np) : Met l yX0_isBetween (ws_ yX0_isBetween cX0_isBetween 3 (some .boolean)) ({ frames := 1, cells := 0, slots := 0, locals := 22 }) (va_Pc [.ref (ad 0), .int p, .int c] (mPre D dA (shX rr xs) ad N σ)) (vp_Si (fun r : Int32 => r = bi (btw c (nc (tn p))))) 0 0 (fun _ => False) := by
  refine Met.ofW (cc := cX0_isBetween) (maxL := 3) (ret := (some .boolean)) (by decide) rfl ?_
  intro pp ee ss mm args below meth cd s₁ B hml hv
  obtain ⟨rfl, hP, hE⟩ := hv
  have hx := B.exec
  have hb := B.bytes
  have hr := B.returns
  have hts := atoms_spec (ws := ws_ yX0_isBetween cX0_isBetween 3 (some .boolean)) B.pre
  have hts : ∀ w ∈ lw_all, w.before _ ss = true := fun w h => hts w (List.mem_cons_of_mem _ h)
  have hown : ss.vm.findClass RX0 = some mm.cls := findClass_of_methodNamed B.named
  have hlocks := B.notSynchronized
  have hNN := hA.1
  have hn5 := hF.n5
  have hp_lt := ik_lt hp
  have hp_m := hF.m hp_lt
  have hp_8 := hF.m8 hp_lt
  have hl := lv_entry ([.ref (ad 0), .int p, .int c]) (n := 3) (Nat.le_of_ble_eq_true rfl)
  rw [lg_entry_eq]
  generalize (lg_sl ([.ref (ad 0), .int p, .int c]) ++ List.replicate (3 - (lg_sl ([.ref (ad 0), .int p, .int c])).length) Slot.unset).toArray = ls at hl ⊢
  have hl : lv_has ls 3 [(0, .ref (ad 0)), (1, .int p), (2, .int c)] := hl
  refine lv_iload_n hx hb dX0_isBetween_0 rfl (lv_at hl 2 rfl) ?_
  refine lv_iconst (v := 1) hx hb dX0_isBetween_1 (by decide) ?_
  refine lv_aload_n hx hb dX0_isBetween_2 rfl (lv_at hl 0 rfl) ?_
  refine mg_ref hx hb hts in_X0 hown hE hP 0 (xl_n hA (by decide)) rfl rfl 1 rfl (by decide) (hts _ q265) (fun _ h9 => h9) dX0_isBetween_3 ?_
  refine mg_refN hx hb hts in_X4 hown hE hP 1 (xl_n hA (by decide)) rfl rfl 0 rfl (by decide) q145 (fun _ h9 => h9) dX0_isBetween_6 ?_
  refine lv_iload_n hx hb dX0_isBetween_9 rfl (lv_at hl 1 rfl) ?_
  refine mg_ald hx hb hE hP 4 (xl_n hA (by decide)) rfl rfl (tn p) (by omega) (ik_eq hp) (by decide) rfl dX0_isBetween_10 ?_
  refine mg_getN hx hb hts in_X5 hown hE hP (30 + 3 * (tn p)) (xl_o hA (xw_p0 (p := tn p) (by omega))) (shX_o (xw_p0 (p := tn p) (by omega))) rfl 6 rfl (by decide) q127 (fun _ h9 => h9) dX0_isBetween_11 ?_
  refine lv_iconst (v := 2) hx hb dX0_isBetween_14 (by decide) ?_
  refine lv_isub hx hb dX0_isBetween_15 ?_
  refine vp_callSi (W.runS (As := [.int c, .int 1, .int (σ (30 + 3 * (tn p)) 6 - 2)]) (rest := []) ⟨hx, hb, hml, hown, hts⟩ (mt_X0_isIn l c 1 (σ (30 + 3 * (tn p)) 6 - 2)) (va_cwS 3 hts (lw_S q344 q345 q45 q346) rfl rfl rfl (by decide +kernel) ⟨Nat.le_of_ble_eq_true rfl, Nat.le_of_ble_eq_true rfl⟩) ⟨fun _ _ _ _ h => h, fun _ _ _ => ⟨rfl, trivial⟩⟩ rfl rfl hl.1 rfl (lv_room (Nat.le_of_ble_eq_true rfl)) dX0_isBetween_16 ⟨Nat.le_of_ble_eq_true rfl, Nat.le_of_ble_eq_true rfl⟩) (fun r_1 hr_1 => ?_)
  subst hr_1
  refine lv_rwi (bi_c (btw_of hp_m (by omega))) ?_
  exact W.zret (v := (bi (btw c (nc (tn p))))) hx hb hr bi_nar (fun t ht hW => ⟨_, rfl, rfl, ht⟩) (fun q hq => by cases hq) dX0_isBetween_19
set_option maxHeartbeats 4000000 in
set_option maxRecDepth 100000 in
theorem mt_X0_cut (l : Launch) (D : va_G) (dA : Nat → ClassId) (rr : Nat → Option Nat) (xs : Nat → mSh) (ad : Nat → Nat) (N : Nat) (hA : xA ad N) (σ : mMem) (p c : Int32) (np : Nat) (nc : Nat → Nat) (ld : Nat → Nat → Nat) (hF : xF σ np nc ld) : Met l yX0_cut (ws_ yX0_cut cX0_cut 3 (some .int)) ({ frames := 3, cells := 0, slots := 0, locals := 81 }) (va_Pc [.ref (ad 0), .int p, .int c] (mPre D dA (shX rr xs) ad N σ)) (va_Qi (fun (r : Int32) (u : mMem) => (if ik p np ∧ ik c (nc (tn p)) then (if btw c (nc (tn p)) then (if σ 1 5 < σ 10 1 then (r = nI (nc (tn p) - 1) ∧ u = rmv (mup σ 1 5 (σ 1 5 + 1)) (30 + 3 * tn p) (nc (tn p)) (tn c)) else (r = -4 ∧ u = σ)) else (r = -2 ∧ u = σ)) else (r = -1 ∧ u = σ))) (mB D dA (shX rr xs) ad N) (mAd ad N)) 0 0 (mAd ad N) := by
  refine Met.ofW (cc := cX0_cut) (maxL := 3) (ret := (some .int)) (by decide) rfl ?_
  intro pp ee ss mm args below meth cd s₁ B hml hv
  obtain ⟨rfl, hP, hE⟩ := hv
  have hx := B.exec
  have hb := B.bytes
  have hr := B.returns
  have hts := atoms_spec (ws := ws_ yX0_cut cX0_cut 3 (some .int)) B.pre
  have hts : ∀ w ∈ lw_all, w.before _ ss = true := fun w h => hts w (List.mem_cons_of_mem _ h)
  have hown : ss.vm.findClass RX0 = some mm.cls := findClass_of_methodNamed B.named
  have hlocks := B.notSynchronized
  have hD := hA.2.self
  have hS : va_S (mAd ad N) ss.heap ss.heap [] := va_S.rf
  have hNN := hA.1
  have hn5 := hF.n5
  have hl := lv_entry ([.ref (ad 0), .int p, .int c]) (n := 3) (Nat.le_of_ble_eq_true rfl)
  rw [lg_entry_eq]
  generalize (lg_sl ([.ref (ad 0), .int p, .int c]) ++ List.replicate (3 - (lg_sl ([.ref (ad 0), .int p, .int c])).length) Slot.unset).toArray = ls at hl ⊢
  have hl : lv_has ls 3 [(0, .ref (ad 0)), (1, .int p), (2, .int c)] := hl
  refine lv_aload_n hx hb dX0_cut_0 rfl (lv_at hl 0 rfl) ?_
  refine lv_iload_n hx hb dX0_cut_1 rfl (lv_at hl 1 rfl) ?_
  refine lv_iload_n hx hb dX0_cut_2 rfl (lv_at hl 2 rfl) ?_
  refine vp_callSi (W.runV (As := [.int p, .int c]) (rest := []) ⟨hx, hb, hml, hown, hts⟩ (mt_X0_isCoat l D dA rr xs ad N hA σ p c np nc ld hF) (cwV 2 hts (lw_V q382 q384 qs3 q45 q385) rfl rfl rfl (by decide +kernel) ⟨Nat.le_of_ble_eq_true rfl, Nat.le_of_ble_eq_true rfl⟩) ⟨mPre.blind, m_recv hE hP 0 (xl_n hA (by decide)) rfl rfl, mPre.at hE hP⟩ rfl rfl hl.1 rfl (lv_room (Nat.le_of_ble_eq_true rfl)) dX0_cut_3 ⟨Nat.le_of_ble_eq_true rfl, Nat.le_of_ble_eq_true rfl⟩) (fun r_1 hr_1 => ?_)
  subst hr_1
  refine lv_if_ne (tgt := 11) hx hb dX0_cut_6 (by decide) (fun c_2 => ?_) (fun c_2 => ?_)
  · have c_2 : ik p np ∧ ik c (nc (tn p)) := bi_t c_2
    obtain ⟨c_2_0, c_2_1⟩ := id c_2
    have c_2_0_lt := ik_lt c_2_0
    have c_2_0_m := hF.m c_2_0_lt
    have c_2_0_8 := hF.m8 c_2_0_lt
    have c_2_1_lt := ik_lt c_2_1
    refine lv_aload_n hx hb dX0_cut_11 rfl (lv_at hl 0 rfl) ?_
    refine lv_iload_n hx hb dX0_cut_12 rfl (lv_at hl 1 rfl) ?_
    refine lv_iload_n hx hb dX0_cut_13 rfl (lv_at hl 2 rfl) ?_
    refine vp_callSi (W.runV (As := [.int p, .int c]) (rest := []) ⟨hx, hb, hml, hown, hts⟩ (mt_X0_isBetween l D dA rr xs ad N hA σ p c np nc ld hF c_2_0) (cwV 2 hts (lw_V q512 q514 qs11 q45 q515) rfl rfl rfl (by decide +kernel) ⟨Nat.le_of_ble_eq_true rfl, Nat.le_of_ble_eq_true rfl⟩) ⟨mPre.blind, m_recv hE hP 0 (xl_n hA (by decide)) rfl rfl, mPre.at hE hP⟩ rfl rfl hl.1 rfl (lv_room (Nat.le_of_ble_eq_true rfl)) dX0_cut_14 ⟨Nat.le_of_ble_eq_true rfl, Nat.le_of_ble_eq_true rfl⟩) (fun r_3 hr_3 => ?_)
    subst hr_3
    refine lv_if_ne (tgt := 23) hx hb dX0_cut_17 (by decide) (fun c_4 => ?_) (fun c_4 => ?_)
    · have c_4 : btw c (nc (tn p)) := bi_t c_4
      refine lv_aload_n hx hb dX0_cut_23 rfl (lv_at hl 0 rfl) ?_
      refine mg_ref hx hb hts in_X0 hown hE hP 0 (xl_n hA (by decide)) rfl rfl 1 rfl (by decide) (hts _ q265) (fun _ h9 => h9) dX0_cut_24 ?_
      refine mg_getN hx hb hts in_X4 hown hE hP 1 (xl_n hA (by decide)) rfl rfl 5 rfl (by decide) q155 (fun _ h9 => h9) dX0_cut_27 ?_
      refine lv_aload_n hx hb dX0_cut_30 rfl (lv_at hl 0 rfl) ?_
      refine mg_ref hx hb hts in_X0 hown hE hP 0 (xl_n hA (by decide)) rfl rfl 1 rfl (by decide) (hts _ q265) (fun _ h9 => h9) dX0_cut_31 ?_
      refine mg_refN hx hb hts in_X4 hown hE hP 1 (xl_n hA (by decide)) rfl rfl 2 rfl (by decide) q149 (fun _ h9 => h9) dX0_cut_34 ?_
      refine lv_iconst (v := 1) hx hb dX0_cut_37 (by decide) ?_
      refine mg_ild hx hb hE hP 10 (xl_n hA (by decide)) rfl 1 (by omega) rfl (by decide) dX0_cut_38 ?_
      refine lv_icmp_lt (tgt := 45) hx hb dX0_cut_39 (by decide) (fun c_5 => ?_) (fun c_5 => ?_)
      · skip
        refine lv_aload_n hx hb dX0_cut_45 rfl (lv_at hl 0 rfl) ?_
        refine mg_ref hx hb hts in_X0 hown hE hP 0 (xl_n hA (by decide)) rfl rfl 1 rfl (by decide) (hts _ q265) (fun _ h9 => h9) dX0_cut_46 ?_
        refine lv_dup hx hb dX0_cut_49 rfl ?_
        refine mg_getN hx hb hts in_X4 hown hE hP 1 (xl_n hA (by decide)) rfl rfl 5 rfl (by decide) q155 (fun _ h9 => h9) dX0_cut_50 ?_
        refine lv_iconst (v := 1) hx hb dX0_cut_53 (by decide) ?_
        refine lv_iadd hx hb dX0_cut_54 ?_
        refine mg_putN (v := (σ 1 5 + 1)) (ty := .int) hx hb hts in_X4 tyX4 tyX4_ok nmX4 hown hE hD hP hS 1 (xl_n hA (by decide)) rfl rfl 5 rfl (by decide) q155 (fun _ h9 => h9) rfl (by decide +kernel) rfl rfl dX0_cut_55 (fun H locs hP hS => ?_)
        refine lv_aload_n hx hb dX0_cut_58 rfl (lv_at hl 0 rfl) ?_
        refine mg_ref hx hb hts in_X0 hown hE hP 0 (xl_n hA (by decide)) rfl rfl 1 rfl (by decide) (hts _ q265) (fun _ h9 => h9) dX0_cut_59 ?_
        refine mg_refN hx hb hts in_X4 hown hE hP 1 (xl_n hA (by decide)) rfl rfl 0 rfl (by decide) q145 (fun _ h9 => h9) dX0_cut_62 ?_
        refine lv_iload_n hx hb dX0_cut_65 rfl (lv_at hl 1 rfl) ?_
        refine mg_ald hx hb hE hP 4 (xl_n hA (by decide)) rfl rfl (tn p) (by omega) (ik_eq c_2_0) (by decide) rfl dX0_cut_66 ?_
        refine lv_iload_n hx hb dX0_cut_67 rfl (lv_at hl 2 rfl) ?_
        refine va_callv (va_runV (As := [.int c]) (rest := []) ⟨hx, hb, hml, hown, hts⟩ (mt_X5_remove l D dA rr xs ad N hA (mup σ 1 5 (σ 1 5 + 1)) (30 + 3 * (tn p)) (xw_p0 (p := tn p) (by omega)) c (tn c) (ik_eq c_2_1) (nc (tn p)) ((mup_ne1 (by omega)).trans c_2_0_m) (by omega) (by omega)) (cwV 1 hts (lw_V q516 q477 q478 q50 q479) rfl rfl rfl (by decide +kernel) ⟨Nat.le_of_ble_eq_true rfl, Nat.le_of_ble_eq_true rfl⟩) ⟨mPre.blind, m_recv hE hP (30 + 3 * (tn p)) (xl_o hA (xw_p0 (p := tn p) (by omega))) (shX_o (xw_p0 (p := tn p) (by omega))) rfl, mPre.at hE hP⟩ rfl rfl hl.1 rfl (lv_room (Nat.le_of_ble_eq_true rfl)) dX0_cut_68 ⟨Nat.le_of_ble_eq_true rfl, Nat.le_of_ble_eq_true rfl⟩) hS (fun q _ h => h) (fun q h => h) (fun ur_6 tr_6 H locs ht h0 hr_6 hB h1 h2 hS => ?_)
        subst hr_6
        have hP := mB.get ht hB
        have hP : va_P D xCl (mW dA (shX rr xs) ad N (va_up (mup (mup σ 1 5 (σ 1 5 + 1)) (30 + 3 * (tn p)) 6 (nI ((nc (tn p)) - 1))) (30 + 3 * (tn p) + 2) (va_cpy ((mup σ 1 5 (σ 1 5 + 1)) (30 + 3 * (tn p) + 2)) ((mup σ 1 5 (σ 1 5 + 1)) (30 + 3 * (tn p) + 2)) (4 * ((tn c) + 1)) (4 * (tn c)) (4 * ((nc (tn p)) - 1 - (tn c)))))) H := hP
        refine lv_aload_n hx hb dX0_cut_71 rfl (lv_at hl 0 rfl) ?_
        refine mg_ref hx hb hts in_X0 hown hE hP 0 (xl_n hA (by decide)) rfl rfl 1 rfl (by decide) (hts _ q265) (fun _ h9 => h9) dX0_cut_72 ?_
        refine mg_refN hx hb hts in_X4 hown hE hP 1 (xl_n hA (by decide)) rfl rfl 0 rfl (by decide) q145 (fun _ h9 => h9) dX0_cut_75 ?_
        refine lv_iload_n hx hb dX0_cut_78 rfl (lv_at hl 1 rfl) ?_
        refine mg_ald hx hb hE hP 4 (xl_n hA (by decide)) rfl rfl (tn p) (by omega) (ik_eq c_2_0) (by decide) rfl dX0_cut_79 ?_
        refine mg_getN hx hb hts in_X5 hown hE hP (30 + 3 * (tn p)) (xl_o hA (xw_p0 (p := tn p) (by omega))) (shX_o (xw_p0 (p := tn p) (by omega))) rfl 6 rfl (by decide) q127 (fun _ h9 => h9) dX0_cut_80 ?_
        refine lv_rwi ((mv_row (by omega)).trans (mup_self _ _ _ _)) ?_
        exact W.iret (v := (nI ((nc (tn p)) - 1))) hx hb hr (fun t ht hW => ⟨⟨_, _, rfl, by dsimp only; rw [if_pos c_2, if_pos c_4, if_pos c_5]; exact ⟨rfl, rfl⟩, mB.of ht hP⟩, hS.F ht⟩) hS.2.2 dX0_cut_83
      · skip
        refine lv_bipush (v := (-4)) hx hb dX0_cut_42 (by decide) ?_
        exact W.iret (v := (-4)) hx hb hr (fun t ht hW => ⟨⟨_, _, rfl, by dsimp only; rw [if_pos c_2, if_pos c_4, if_neg c_5]; exact ⟨rfl, rfl⟩, mB.of ht hP⟩, hS.F ht⟩) hS.2.2 dX0_cut_44
    · have c_4 : ¬ (btw c (nc (tn p))) := bi_f c_4
      refine lv_bipush (v := (-2)) hx hb dX0_cut_20 (by decide) ?_
      exact W.iret (v := (-2)) hx hb hr (fun t ht hW => ⟨⟨_, _, rfl, by dsimp only; rw [if_pos c_2, if_neg c_4]; exact ⟨rfl, rfl⟩, mB.of ht hP⟩, hS.F ht⟩) hS.2.2 dX0_cut_22
  · have c_2 : ¬ (ik p np ∧ ik c (nc (tn p))) := bi_f c_2
    refine lv_iconst (v := (-1)) hx hb dX0_cut_9 (by decide) ?_
    exact W.iret (v := (-1)) hx hb hr (fun t ht hW => ⟨⟨_, _, rfl, by dsimp only; rw [if_neg c_2]; exact ⟨rfl, rfl⟩, mB.of ht hP⟩, hS.F ht⟩) hS.2.2 dX0_cut_10
set_option maxHeartbeats 4000000 in
set_option maxRecDepth 100000 in
theorem mt_X0_isBare (l : Launch) (D : va_G) (dA : Nat → ClassId) (rr : Nat → Option Nat) (xs : Nat → mSh) (ad : Nat → Nat) (N : Nat) (hA : xA ad N) (σ : mMem) (p : Int32) (np : Nat) (nc : Nat → Nat) (ld : Nat → Nat → Nat) (hF : xF σ np nc ld) (h0 : p < 0 ∨ ik p np) : Met l yX0_isBare (ws_ yX0_isBare cX0_isBare 2 (some .boolean)) ({ frames := 0, cells := 0, slots := 0, locals := 0 }) (va_Pc [.ref (ad 0), .int p] (mPre D dA (shX rr xs) ad N σ)) (vp_Si (fun r : Int32 => r = bi (ik p np ∧ nc (tn p) = 0))) 0 0 (fun _ => False) := by
  refine Met.ofW (cc := cX0_isBare) (maxL := 2) (ret := (some .boolean)) (by decide) rfl ?_
  intro pp ee ss mm args below meth cd s₁ B hml hv
  obtain ⟨rfl, hP, hE⟩ := hv
  have hx := B.exec
  have hb := B.bytes
  have hr := B.returns
  have hts := atoms_spec (ws := ws_ yX0_isBare cX0_isBare 2 (some .boolean)) B.pre
  have hts : ∀ w ∈ lw_all, w.before _ ss = true := fun w h => hts w (List.mem_cons_of_mem _ h)
  have hown : ss.vm.findClass RX0 = some mm.cls := findClass_of_methodNamed B.named
  have hlocks := B.notSynchronized
  have hNN := hA.1
  have hn5 := hF.n5
  have hl := lv_entry ([.ref (ad 0), .int p]) (n := 2) (Nat.le_of_ble_eq_true rfl)
  rw [lg_entry_eq]
  generalize (lg_sl ([.ref (ad 0), .int p]) ++ List.replicate (2 - (lg_sl ([.ref (ad 0), .int p])).length) Slot.unset).toArray = ls at hl ⊢
  have hl : lv_has ls 2 [(0, .ref (ad 0)), (1, .int p)] := hl
  refine lv_iload_n hx hb dX0_isBare_0 rfl (lv_at hl 1 rfl) ?_
  refine lv_if_lt (tgt := 23) hx hb dX0_isBare_1 (by decide) (fun c_1 => ?_) (fun c_1 => ?_)
  · skip
    refine lv_iconst (v := 0) hx hb dX0_isBare_23 (by decide) ?_
    exact W.zret (v := 0) hx hb hr rfl (fun t ht hW => ⟨_, rfl, bi_0 (fun q => absurd c_1 (by rw [i_lt]; exact Int.not_lt.mpr q.1.1)), ht⟩) (fun q hq => by cases hq) dX0_isBare_24
  · skip
    have hk : ik p np := h0.resolve_left c_1
    have hk_lt := ik_lt hk
    have hk_m := hF.m hk_lt
    have hk_8 := hF.m8 hk_lt
    refine lv_aload_n hx hb dX0_isBare_4 rfl (lv_at hl 0 rfl) ?_
    refine mg_ref hx hb hts in_X0 hown hE hP 0 (xl_n hA (by decide)) rfl rfl 1 rfl (by decide) (hts _ q265) (fun _ h9 => h9) dX0_isBare_5 ?_
    refine mg_refN hx hb hts in_X4 hown hE hP 1 (xl_n hA (by decide)) rfl rfl 0 rfl (by decide) q145 (fun _ h9 => h9) dX0_isBare_8 ?_
    refine lv_iload_n hx hb dX0_isBare_11 rfl (lv_at hl 1 rfl) ?_
    refine mg_ald hx hb hE hP 4 (xl_n hA (by decide)) rfl rfl (tn p) (by omega) (ik_eq hk) (by decide) rfl dX0_isBare_12 ?_
    refine mg_getN hx hb hts in_X5 hown hE hP (30 + 3 * (tn p)) (xl_o hA (xw_p0 (p := tn p) (by omega))) (shX_o (xw_p0 (p := tn p) (by omega))) rfl 6 rfl (by decide) q127 (fun _ h9 => h9) dX0_isBare_13 ?_
    refine lv_if_ne (tgt := 23) hx hb dX0_isBare_16 (by decide) (fun c_2 => ?_) (fun c_2 => ?_)
    · have nc_2 : nc (tn p) ≠ 0 := mi_ne hk_m rfl (by omega) (by omega) c_2
      refine lv_iconst (v := 0) hx hb dX0_isBare_23 (by decide) ?_
      exact W.zret (v := 0) hx hb hr rfl (fun t ht hW => ⟨_, rfl, bi_0 (fun q => nc_2 q.2), ht⟩) (fun q hq => by cases hq) dX0_isBare_24
    · have nc_2 : nc (tn p) = 0 := mi_eq hk_m rfl (by omega) (by omega) c_2
      refine lv_iconst (v := 1) hx hb dX0_isBare_19 (by decide) ?_
      refine lv_goto (tgt := 24) hx hb dX0_isBare_20 (by decide) ?_
      exact W.zret (v := 1) hx hb hr rfl (fun t ht hW => ⟨_, rfl, bi_1 ⟨hk, nc_2⟩, ht⟩) (fun q hq => by cases hq) dX0_isBare_24
set_option maxHeartbeats 4000000 in
set_option maxRecDepth 100000 in
theorem mt_X0_savedBy (l : Launch) (D : va_G) (dA : Nat → ClassId) (rr : Nat → Option Nat) (xs : Nat → mSh) (ad : Nat → Nat) (N : Nat) (hA : xA ad N) (σ : mMem) (a b : Int32) (np : Nat) (nc : Nat → Nat) (ld : Nat → Nat → Nat) (hF : xF σ np nc ld) (ka : ik a np) (kb : ik b np) (na : 0 < nc (tn a)) (nb : 0 < nc (tn b)) : Met l yX0_savedBy (ws_ yX0_savedBy cX0_savedBy 5 (some .int)) ({ frames := 1, cells := 0, slots := 0, locals := 21 }) (va_Pc [.ref (ad 0), .int a, .int b] (mPre D dA (shX rr xs) ad N σ)) (vp_Si (fun r : Int32 => r = sav σ nc ld (tn a) (tn b))) 0 0 (fun _ => False) := by
  refine Met.ofW (cc := cX0_savedBy) (maxL := 5) (ret := (some .int)) (by decide) rfl ?_
  intro pp ee ss mm args below meth cd s₁ B hml hv
  obtain ⟨rfl, hP, hE⟩ := hv
  have hx := B.exec
  have hb := B.bytes
  have hr := B.returns
  have hts := atoms_spec (ws := ws_ yX0_savedBy cX0_savedBy 5 (some .int)) B.pre
  have hts : ∀ w ∈ lw_all, w.before _ ss = true := fun w h => hts w (List.mem_cons_of_mem _ h)
  have hown : ss.vm.findClass RX0 = some mm.cls := findClass_of_methodNamed B.named
  have hlocks := B.notSynchronized
  have hNN := hA.1
  have hn5 := hF.n5
  have ka_lt := ik_lt ka
  have ka_m := hF.m ka_lt
  have ka_8 := hF.m8 ka_lt
  have kb_lt := ik_lt kb
  have kb_m := hF.m kb_lt
  have kb_8 := hF.m8 kb_lt
  have hl := lv_entry ([.ref (ad 0), .int a, .int b]) (n := 5) (Nat.le_of_ble_eq_true rfl)
  rw [lg_entry_eq]
  generalize (lg_sl ([.ref (ad 0), .int a, .int b]) ++ List.replicate (5 - (lg_sl ([.ref (ad 0), .int a, .int b])).length) Slot.unset).toArray = ls at hl ⊢
  have hl : lv_has ls 5 [(0, .ref (ad 0)), (1, .int a), (2, .int b)] := hl
  refine lv_aload_n hx hb dX0_savedBy_0 rfl (lv_at hl 0 rfl) ?_
  refine mg_ref hx hb hts in_X0 hown hE hP 0 (xl_n hA (by decide)) rfl rfl 1 rfl (by decide) (hts _ q265) (fun _ h9 => h9) dX0_savedBy_1 ?_
  refine mg_refN hx hb hts in_X4 hown hE hP 1 (xl_n hA (by decide)) rfl rfl 0 rfl (by decide) q145 (fun _ h9 => h9) dX0_savedBy_4 ?_
  refine lv_iload_n hx hb dX0_savedBy_7 rfl (lv_at hl 1 rfl) ?_
  refine mg_ald hx hb hE hP 4 (xl_n hA (by decide)) rfl rfl (tn a) (by omega) (ik_eq ka) (by decide) rfl dX0_savedBy_8 ?_
  refine lv_astore_n (lv' := [(3, .ref (ad (30 + 3 * (tn a)))), (0, .ref (ad 0)), (1, .int a), (2, .int b)]) hx hb dX0_savedBy_9 rfl hl (by decide) rfl (fun ls hl => ?_)
  refine lv_aload_n hx hb dX0_savedBy_10 rfl (lv_at hl 1 rfl) ?_
  refine mg_ref hx hb hts in_X0 hown hE hP 0 (xl_n hA (by decide)) rfl rfl 1 rfl (by decide) (hts _ q265) (fun _ h9 => h9) dX0_savedBy_11 ?_
  refine mg_refN hx hb hts in_X4 hown hE hP 1 (xl_n hA (by decide)) rfl rfl 0 rfl (by decide) q145 (fun _ h9 => h9) dX0_savedBy_14 ?_
  refine lv_iload_n hx hb dX0_savedBy_17 rfl (lv_at hl 3 rfl) ?_
  refine mg_ald hx hb hE hP 4 (xl_n hA (by decide)) rfl rfl (tn b) (by omega) (ik_eq kb) (by decide) rfl dX0_savedBy_18 ?_
  refine lv_astore (lv' := [(4, .ref (ad (30 + 3 * (tn b)))), (3, .ref (ad (30 + 3 * (tn a)))), (0, .ref (ad 0)), (1, .int a), (2, .int b)]) hx hb dX0_savedBy_19 hl (by decide) rfl (fun ls hl => ?_)
  refine lv_aload_n hx hb dX0_savedBy_21 rfl (lv_at hl 1 rfl) ?_
  refine mg_refN hx hb hts in_X5 hown hE hP (30 + 3 * (tn a)) (xl_o hA (xw_p0 (p := tn a) (by omega))) (shX_o (xw_p0 (p := tn a) (by omega))) rfl 4 rfl (by decide) q121 (fun _ h9 => h9) dX0_savedBy_22 ?_
  refine lv_aload_n hx hb dX0_savedBy_25 rfl (lv_at hl 1 rfl) ?_
  refine lv_aload_n hx hb dX0_savedBy_26 rfl (lv_at hl 1 rfl) ?_
  refine mg_getN hx hb hts in_X5 hown hE hP (30 + 3 * (tn a)) (xl_o hA (xw_p0 (p := tn a) (by omega))) (shX_o (xw_p0 (p := tn a) (by omega))) rfl 6 rfl (by decide) q127 (fun _ h9 => h9) dX0_savedBy_27 ?_
  refine lv_iconst (v := 1) hx hb dX0_savedBy_30 (by decide) ?_
  refine lv_isub hx hb dX0_savedBy_31 ?_
  refine vp_callSi (W.runV (As := [.int (σ (30 + 3 * (tn a)) 6 - 1)]) (rest := [.ref (ad (30 + 3 * (tn a) + 1))]) ⟨hx, hb, hml, hown, hts⟩ (mt_X5_lender l D dA rr xs ad N hA σ (30 + 3 * (tn a)) (xw_p0 (p := tn a) (by omega)) (σ (30 + 3 * (tn a)) 6 - 1) ((nc (tn a)) - 1) (mi_sub (a := nc (tn a)) (b := 1) ka_m rfl (by omega)) (by omega)) (cwV 1 hts (lw_V q366 q367 q368 q50 q369) rfl rfl rfl (by decide +kernel) ⟨Nat.le_of_ble_eq_true rfl, Nat.le_of_ble_eq_true rfl⟩) ⟨mPre.blind, m_recv hE hP (30 + 3 * (tn a)) (xl_o hA (xw_p0 (p := tn a) (by omega))) (shX_o (xw_p0 (p := tn a) (by omega))) rfl, mPre.at hE hP⟩ rfl rfl hl.1 rfl (lv_room (Nat.le_of_ble_eq_true rfl)) dX0_savedBy_32 ⟨Nat.le_of_ble_eq_true rfl, Nat.le_of_ble_eq_true rfl⟩) (fun r_1 hr_1 => ?_)
  subst hr_1
  refine mg_ild hx hb hE hP (30 + 3 * (tn a) + 1) (xl_t hA (xw_p0 (p := tn a) (by omega))) (shX_t (xw_p0 (p := tn a) (by omega))) (ld (tn a) (nc (tn a) - 1)) (hF.l ka_lt _ (by omega)).2 ((hF.l ka_lt (nc (tn a) - 1) (by omega)).1) (by decide) dX0_savedBy_35 ?_
  refine lv_aload_n hx hb dX0_savedBy_36 rfl (lv_at hl 1 rfl) ?_
  refine mg_refN hx hb hts in_X5 hown hE hP (30 + 3 * (tn a)) (xl_o hA (xw_p0 (p := tn a) (by omega))) (shX_o (xw_p0 (p := tn a) (by omega))) rfl 4 rfl (by decide) q121 (fun _ h9 => h9) dX0_savedBy_37 ?_
  refine lv_aload hx hb dX0_savedBy_40 (lv_at hl 0 rfl) ?_
  refine lv_aload hx hb dX0_savedBy_42 (lv_at hl 0 rfl) ?_
  refine mg_getN hx hb hts in_X5 hown hE hP (30 + 3 * (tn b)) (xl_o hA (xw_p0 (p := tn b) (by omega))) (shX_o (xw_p0 (p := tn b) (by omega))) rfl 6 rfl (by decide) q127 (fun _ h9 => h9) dX0_savedBy_44 ?_
  refine lv_iconst (v := 1) hx hb dX0_savedBy_47 (by decide) ?_
  refine lv_isub hx hb dX0_savedBy_48 ?_
  refine vp_callSi (W.runV (As := [.int (σ (30 + 3 * (tn b)) 6 - 1)]) (rest := [.ref (ad (30 + 3 * (tn a) + 1)), .int (σ (30 + 3 * (tn a) + 1) (ld (tn a) (nc (tn a) - 1)))]) ⟨hx, hb, hml, hown, hts⟩ (mt_X5_lender l D dA rr xs ad N hA σ (30 + 3 * (tn b)) (xw_p0 (p := tn b) (by omega)) (σ (30 + 3 * (tn b)) 6 - 1) ((nc (tn b)) - 1) (mi_sub (a := nc (tn b)) (b := 1) kb_m rfl (by omega)) (by omega)) (cwV 1 hts (lw_V q366 q367 q368 q50 q369) rfl rfl rfl (by decide +kernel) ⟨Nat.le_of_ble_eq_true rfl, Nat.le_of_ble_eq_true rfl⟩) ⟨mPre.blind, m_recv hE hP (30 + 3 * (tn b)) (xl_o hA (xw_p0 (p := tn b) (by omega))) (shX_o (xw_p0 (p := tn b) (by omega))) rfl, mPre.at hE hP⟩ rfl rfl hl.1 rfl (lv_room (Nat.le_of_ble_eq_true rfl)) dX0_savedBy_49 ⟨Nat.le_of_ble_eq_true rfl, Nat.le_of_ble_eq_true rfl⟩) (fun r_2 hr_2 => ?_)
  subst hr_2
  refine mg_ild hx hb hE hP (30 + 3 * (tn a) + 1) (xl_t hA (xw_p0 (p := tn a) (by omega))) (shX_t (xw_p0 (p := tn a) (by omega))) (ld (tn b) (nc (tn b) - 1)) (hF.l kb_lt _ (by omega)).2 ((hF.l kb_lt (nc (tn b) - 1) (by omega)).1) (by decide) dX0_savedBy_52 ?_
  refine lv_isub hx hb dX0_savedBy_53 ?_
  exact W.iret (v := (σ (30 + 3 * (tn a) + 1) (ld (tn a) (nc (tn a) - 1)) - σ (30 + 3 * (tn a) + 1) (ld (tn b) (nc (tn b) - 1)))) hx hb hr (fun t ht hW => ⟨_, rfl, rfl, ht⟩) (fun q hq => by cases hq) dX0_savedBy_54
set_option maxHeartbeats 4000000 in
set_option maxRecDepth 100000 in
theorem mt_X0_savedIn (l : Launch) (D : va_G) (dA : Nat → ClassId) (rr : Nat → Option Nat) (xs : Nat → mSh) (ad : Nat → Nat) (N : Nat) (hA : xA ad N) (σ : mMem) (a b c : Int32) (np : Nat) (nc : Nat → Nat) (ld : Nat → Nat → Nat) (hF : xF σ np nc ld) (ka : ik a np) (kb : ik b np) (hc : c < 0 ∨ ik c np) (na : 0 < nc (tn a)) (nb : 0 < nc (tn b)) (nc0 : ik c np → 0 < nc (tn c)) : Met l yX0_savedIn (ws_ yX0_savedIn cX0_savedIn 7 (some .int)) ({ frames := 2, cells := 0, slots := 0, locals := 45 }) (va_Pc [.ref (ad 0), .int a, .int b, .int c] (mPre D dA (shX rr xs) ad N σ)) (vp_Si (fun r : Int32 => r = savI σ nc ld (tn a) (tn b) c)) 0 0 (fun _ => False) := by
  refine Met.ofW (cc := cX0_savedIn) (maxL := 7) (ret := (some .int)) (by decide) rfl ?_
  intro pp ee ss mm args below meth cd s₁ B hml hv
  obtain ⟨rfl, hP, hE⟩ := hv
  have hx := B.exec
  have hb := B.bytes
  have hr := B.returns
  have hts := atoms_spec (ws := ws_ yX0_savedIn cX0_savedIn 7 (some .int)) B.pre
  have hts : ∀ w ∈ lw_all, w.before _ ss = true := fun w h => hts w (List.mem_cons_of_mem _ h)
  have hown : ss.vm.findClass RX0 = some mm.cls := findClass_of_methodNamed B.named
  have hlocks := B.notSynchronized
  have hNN := hA.1
  have hn5 := hF.n5
  have ka_lt := ik_lt ka
  have ka_m := hF.m ka_lt
  have ka_8 := hF.m8 ka_lt
  have kb_lt := ik_lt kb
  have kb_m := hF.m kb_lt
  have kb_8 := hF.m8 kb_lt
  have hl := lv_entry ([.ref (ad 0), .int a, .int b, .int c]) (n := 7) (Nat.le_of_ble_eq_true rfl)
  rw [lg_entry_eq]
  generalize (lg_sl ([.ref (ad 0), .int a, .int b, .int c]) ++ List.replicate (7 - (lg_sl ([.ref (ad 0), .int a, .int b, .int c])).length) Slot.unset).toArray = ls at hl ⊢
  have hl : lv_has ls 7 [(0, .ref (ad 0)), (1, .int a), (2, .int b), (3, .int c)] := hl
  refine lv_aload_n hx hb dX0_savedIn_0 rfl (lv_at hl 0 rfl) ?_
  refine lv_iload_n hx hb dX0_savedIn_1 rfl (lv_at hl 2 rfl) ?_
  refine lv_iload_n hx hb dX0_savedIn_2 rfl (lv_at hl 1 rfl) ?_
  refine vp_callSi (W.runV (As := [.int b, .int a]) (rest := []) ⟨hx, hb, hml, hown, hts⟩ (mt_X0_savedBy l D dA rr xs ad N hA σ b a np nc ld hF kb ka nb na) (cwV 2 hts (lw_V q529 q531 qs14 q45 q532) rfl rfl rfl (by decide +kernel) ⟨Nat.le_of_ble_eq_true rfl, Nat.le_of_ble_eq_true rfl⟩) ⟨mPre.blind, m_recv hE hP 0 (xl_n hA (by decide)) rfl rfl, mPre.at hE hP⟩ rfl rfl hl.1 rfl (lv_room (Nat.le_of_ble_eq_true rfl)) dX0_savedIn_3 ⟨Nat.le_of_ble_eq_true rfl, Nat.le_of_ble_eq_true rfl⟩) (fun r_1 hr_1 => ?_)
  subst hr_1
  refine lv_istore (lv' := [(4, .int (sav σ nc ld (tn b) (tn a))), (0, .ref (ad 0)), (1, .int a), (2, .int b), (3, .int c)]) hx hb dX0_savedIn_6 hl (by decide) rfl (fun ls hl => ?_)
  refine lv_aload_n hx hb dX0_savedIn_8 rfl (lv_at hl 1 rfl) ?_
  refine lv_iload_n hx hb dX0_savedIn_9 rfl (lv_at hl 4 rfl) ?_
  refine lv_if_ge (tgt := 17) hx hb dX0_savedIn_10 (by decide) (fun c_2 => ?_) (fun c_2 => ?_)
  · skip
    have hk : ik c np := hc.resolve_left (Int32.not_lt.mpr c_2)
    have hk_lt := ik_lt hk
    have hk_m := hF.m hk_lt
    have hk_8 := hF.m8 hk_lt
    have nck := nc0 hk
    refine lv_iload_n hx hb dX0_savedIn_17 rfl (lv_at hl 4 rfl) ?_
    refine lv_iload_n hx hb dX0_savedIn_18 rfl (lv_at hl 3 rfl) ?_
    refine vp_callSi (W.runV (As := [.int c, .int b]) (rest := []) ⟨hx, hb, hml, hown, hts⟩ (mt_X0_savedBy l D dA rr xs ad N hA σ c b np nc ld hF hk kb nck nb) (cwV 2 hts (lw_V q529 q531 qs14 q45 q532) rfl rfl rfl (by decide +kernel) ⟨Nat.le_of_ble_eq_true rfl, Nat.le_of_ble_eq_true rfl⟩) ⟨mPre.blind, m_recv hE hP 0 (xl_n hA (by decide)) rfl rfl, mPre.at hE hP⟩ rfl rfl hl.1 rfl (lv_room (Nat.le_of_ble_eq_true rfl)) dX0_savedIn_19 ⟨Nat.le_of_ble_eq_true rfl, Nat.le_of_ble_eq_true rfl⟩) (fun r_3 hr_3 => ?_)
    subst hr_3
    refine lv_istore (lv' := [(5, .int (sav σ nc ld (tn c) (tn b))), (4, .int (sav σ nc ld (tn b) (tn a))), (0, .ref (ad 0)), (1, .int a), (2, .int b), (3, .int c)]) hx hb dX0_savedIn_22 hl (by decide) rfl (fun ls hl => ?_)
    refine lv_iload_n hx hb dX0_savedIn_24 rfl (lv_at hl 5 rfl) ?_
    refine lv_if_ge (tgt := 32) hx hb dX0_savedIn_25 (by decide) (fun c_4 => ?_) (fun c_4 => ?_)
    · have nc_4 : 0 ≤ tn c := mi_le rfl (ik_eq hk) (by omega) (by omega) c_4
      refine lv_aload_n hx hb dX0_savedIn_32 rfl (lv_at hl 2 rfl) ?_
      refine lv_iload_n hx hb dX0_savedIn_33 rfl (lv_at hl 3 rfl) ?_
      refine lv_iload_n hx hb dX0_savedIn_34 rfl (lv_at hl 5 rfl) ?_
      refine vp_callSi (W.runV (As := [.int a, .int c]) (rest := []) ⟨hx, hb, hml, hown, hts⟩ (mt_X0_savedBy l D dA rr xs ad N hA σ a c np nc ld hF ka hk na nck) (cwV 2 hts (lw_V q529 q531 qs14 q45 q532) rfl rfl rfl (by decide +kernel) ⟨Nat.le_of_ble_eq_true rfl, Nat.le_of_ble_eq_true rfl⟩) ⟨mPre.blind, m_recv hE hP 0 (xl_n hA (by decide)) rfl rfl, mPre.at hE hP⟩ rfl rfl hl.1 rfl (lv_room (Nat.le_of_ble_eq_true rfl)) dX0_savedIn_35 ⟨Nat.le_of_ble_eq_true rfl, Nat.le_of_ble_eq_true rfl⟩) (fun r_5 hr_5 => ?_)
      subst hr_5
      refine lv_istore (lv' := [(6, .int (sav σ nc ld (tn a) (tn c))), (5, .int (sav σ nc ld (tn c) (tn b))), (4, .int (sav σ nc ld (tn b) (tn a))), (0, .ref (ad 0)), (1, .int a), (2, .int b), (3, .int c)]) hx hb dX0_savedIn_38 hl (by decide) rfl (fun ls hl => ?_)
      refine lv_iload hx hb dX0_savedIn_40 (lv_at hl 2 rfl) ?_
      refine lv_if_le (tgt := 55) hx hb dX0_savedIn_42 (by decide) (fun c_6 => ?_) (fun c_6 => ?_)
      · skip
        refine lv_bipush (v := (-4)) hx hb dX0_savedIn_55 (by decide) ?_
        refine lv_goto (tgt := 76) hx hb dX0_savedIn_57 (by decide) ?_
        exact W.iret (v := (-4)) hx hb hr (fun t ht hW => ⟨_, rfl, by dsimp only; rw [savI, if_neg (Int32.not_lt.mpr c_2)]; simp [c_6], ht⟩) (fun q hq => by cases hq) dX0_savedIn_76
      · skip
        refine lv_iload hx hb dX0_savedIn_45 (lv_at hl 1 rfl) ?_
        refine lv_if_le (tgt := 55) hx hb dX0_savedIn_47 (by decide) (fun c_7 => ?_) (fun c_7 => ?_)
        · skip
          refine lv_bipush (v := (-4)) hx hb dX0_savedIn_55 (by decide) ?_
          refine lv_goto (tgt := 76) hx hb dX0_savedIn_57 (by decide) ?_
          exact W.iret (v := (-4)) hx hb hr (fun t ht hW => ⟨_, rfl, by dsimp only; rw [savI, if_neg (Int32.not_lt.mpr c_2)]; simp [c_6, c_7], ht⟩) (fun q hq => by cases hq) dX0_savedIn_76
        · skip
          refine lv_iload hx hb dX0_savedIn_50 (lv_at hl 0 rfl) ?_
          refine lv_if_gt (tgt := 60) hx hb dX0_savedIn_52 (by decide) (fun c_8 => ?_) (fun c_8 => ?_)
          · skip
            refine lv_iload hx hb dX0_savedIn_60 (lv_at hl 2 rfl) ?_
            refine lv_iload hx hb dX0_savedIn_62 (lv_at hl 1 rfl) ?_
            refine lv_iadd hx hb dX0_savedIn_64 ?_
            refine lv_iload_n hx hb dX0_savedIn_65 rfl (lv_at hl 6 rfl) ?_
            refine lv_if_ge (tgt := 73) hx hb dX0_savedIn_66 (by decide) (fun c_9 => ?_) (fun c_9 => ?_)
            · have nc_9 : 0 ≤ tn c := mi_le rfl (ik_eq hk) (by omega) (by omega) c_9
              refine lv_iload hx hb dX0_savedIn_73 (lv_at hl 0 rfl) ?_
              refine lv_iadd hx hb dX0_savedIn_75 ?_
              exact W.iret (v := (((sav σ nc ld (tn b) (tn a)) + (sav σ nc ld (tn c) (tn b))) + (sav σ nc ld (tn a) (tn c)))) hx hb hr (fun t ht hW => ⟨_, rfl, by dsimp only; rw [savI, if_neg (Int32.not_lt.mpr c_2)]; simp [c_6, c_7, Int32.not_le.mpr c_8], ht⟩) (fun q hq => by cases hq) dX0_savedIn_76
            · have nc_9 : tn c < 0 := mi_nle rfl (ik_eq hk) (by omega) (by omega) c_9
              exact absurd c_4 c_9
          · skip
            refine lv_bipush (v := (-4)) hx hb dX0_savedIn_55 (by decide) ?_
            refine lv_goto (tgt := 76) hx hb dX0_savedIn_57 (by decide) ?_
            exact W.iret (v := (-4)) hx hb hr (fun t ht hW => ⟨_, rfl, by dsimp only; rw [savI, if_neg (Int32.not_lt.mpr c_2)]; simp [c_6, c_7, c_8], ht⟩) (fun q hq => by cases hq) dX0_savedIn_76
    · have nc_4 : tn c < 0 := mi_nle rfl (ik_eq hk) (by omega) (by omega) c_4
      exact absurd c_2 c_4
  · skip
    refine lv_iload_n hx hb dX0_savedIn_13 rfl (lv_at hl 2 rfl) ?_
    refine lv_goto (tgt := 18) hx hb dX0_savedIn_14 (by decide) ?_
    refine lv_iload_n hx hb dX0_savedIn_18 rfl (lv_at hl 3 rfl) ?_
    refine vp_callSi (W.runV (As := [.int a, .int b]) (rest := []) ⟨hx, hb, hml, hown, hts⟩ (mt_X0_savedBy l D dA rr xs ad N hA σ a b np nc ld hF ka kb na nb) (cwV 2 hts (lw_V q529 q531 qs14 q45 q532) rfl rfl rfl (by decide +kernel) ⟨Nat.le_of_ble_eq_true rfl, Nat.le_of_ble_eq_true rfl⟩) ⟨mPre.blind, m_recv hE hP 0 (xl_n hA (by decide)) rfl rfl, mPre.at hE hP⟩ rfl rfl hl.1 rfl (lv_room (Nat.le_of_ble_eq_true rfl)) dX0_savedIn_19 ⟨Nat.le_of_ble_eq_true rfl, Nat.le_of_ble_eq_true rfl⟩) (fun r_10 hr_10 => ?_)
    subst hr_10
    refine lv_istore (lv' := [(5, .int (sav σ nc ld (tn a) (tn b))), (4, .int (sav σ nc ld (tn b) (tn a))), (0, .ref (ad 0)), (1, .int a), (2, .int b), (3, .int c)]) hx hb dX0_savedIn_22 hl (by decide) rfl (fun ls hl => ?_)
    refine lv_iload_n hx hb dX0_savedIn_24 rfl (lv_at hl 5 rfl) ?_
    refine lv_if_ge (tgt := 32) hx hb dX0_savedIn_25 (by decide) (fun c_11 => ?_) (fun c_11 => ?_)
    · skip
      exact absurd c_11 c_2
    · skip
      refine lv_iconst (v := 1) hx hb dX0_savedIn_28 (by decide) ?_
      refine lv_goto (tgt := 38) hx hb dX0_savedIn_29 (by decide) ?_
      refine lv_istore (lv' := [(6, .int 1), (5, .int (sav σ nc ld (tn a) (tn b))), (4, .int (sav σ nc ld (tn b) (tn a))), (0, .ref (ad 0)), (1, .int a), (2, .int b), (3, .int c)]) hx hb dX0_savedIn_38 hl (by decide) rfl (fun ls hl => ?_)
      refine lv_iload hx hb dX0_savedIn_40 (lv_at hl 2 rfl) ?_
      refine lv_if_le (tgt := 55) hx hb dX0_savedIn_42 (by decide) (fun c_12 => ?_) (fun c_12 => ?_)
      · skip
        refine lv_bipush (v := (-4)) hx hb dX0_savedIn_55 (by decide) ?_
        refine lv_goto (tgt := 76) hx hb dX0_savedIn_57 (by decide) ?_
        exact W.iret (v := (-4)) hx hb hr (fun t ht hW => ⟨_, rfl, by dsimp only; rw [savI, if_pos (Int32.not_le.mp c_2)]; simp [c_12], ht⟩) (fun q hq => by cases hq) dX0_savedIn_76
      · skip
        refine lv_iload hx hb dX0_savedIn_45 (lv_at hl 1 rfl) ?_
        refine lv_if_le (tgt := 55) hx hb dX0_savedIn_47 (by decide) (fun c_13 => ?_) (fun c_13 => ?_)
        · skip
          refine lv_bipush (v := (-4)) hx hb dX0_savedIn_55 (by decide) ?_
          refine lv_goto (tgt := 76) hx hb dX0_savedIn_57 (by decide) ?_
          exact W.iret (v := (-4)) hx hb hr (fun t ht hW => ⟨_, rfl, by dsimp only; rw [savI, if_pos (Int32.not_le.mp c_2)]; simp [c_12, c_13], ht⟩) (fun q hq => by cases hq) dX0_savedIn_76
        · skip
          refine lv_iload hx hb dX0_savedIn_50 (lv_at hl 0 rfl) ?_
          refine lv_if_gt (tgt := 60) hx hb dX0_savedIn_52 (by decide) (fun c_14 => ?_) (fun c_14 => ?_)
          · skip
            refine lv_iload hx hb dX0_savedIn_60 (lv_at hl 2 rfl) ?_
            refine lv_iload hx hb dX0_savedIn_62 (lv_at hl 1 rfl) ?_
            refine lv_iadd hx hb dX0_savedIn_64 ?_
            refine lv_iload_n hx hb dX0_savedIn_65 rfl (lv_at hl 6 rfl) ?_
            refine lv_if_ge (tgt := 73) hx hb dX0_savedIn_66 (by decide) (fun c_15 => ?_) (fun c_15 => ?_)
            · skip
              exact absurd c_15 c_11
            · skip
              refine lv_iconst (v := 0) hx hb dX0_savedIn_69 (by decide) ?_
              refine lv_goto (tgt := 75) hx hb dX0_savedIn_70 (by decide) ?_
              refine lv_iadd hx hb dX0_savedIn_75 ?_
              exact W.iret (v := (((sav σ nc ld (tn b) (tn a)) + (sav σ nc ld (tn a) (tn b))) + 0)) hx hb hr (fun t ht hW => ⟨_, rfl, by dsimp only; rw [savI, if_pos (Int32.not_le.mp c_2)]; simp [c_12, c_13, Int32.not_le.mpr c_14], ht⟩) (fun q hq => by cases hq) dX0_savedIn_76
          · skip
            exact absurd c_14 (by decide)
set_option maxHeartbeats 4000000 in
set_option maxRecDepth 100000 in
theorem mt_X0_giveTo (l : Launch) (D : va_G) (dA : Nat → ClassId) (rr : Nat → Option Nat) (xs : Nat → mSh) (ad : Nat → Nat) (N : Nat) (hA : xA ad N) (σ : mMem) (x : Int32) (a : Nat) (hx0 : x = nI a) (ha : a < 5) (n : Nat) (hn : σ (30 + 3 * a) 6 = nI n) (hn1 : 0 < n) (hn8 : n ≤ 8) : Met l yX0_giveTo (ws_ yX0_giveTo cX0_giveTo 6 none) ({ frames := 0, cells := 0, slots := 0, locals := 0 }) (va_Pc [.ref (ad 0), .int x, .ref (ad 19)] (mPre D dA (shX rr xs) ad N σ)) (va_Qv (fun (u : mMem) => u = gvF σ (30 + 3 * a) (4 * (n - 1)) 4) (mB D dA (shX rr xs) ad N) (mAd ad N)) 0 0 (mAd ad N) := by
  refine Met.ofW (cc := cX0_giveTo) (maxL := 6) (ret := none) (by decide) rfl ?_
  intro pp ee ss mm args below meth cd s₁ B hml hv
  obtain ⟨rfl, hP, hE⟩ := hv
  have hx := B.exec
  have hb := B.bytes
  have hr := B.returns
  have hts := atoms_spec (ws := ws_ yX0_giveTo cX0_giveTo 6 none) B.pre
  have hts : ∀ w ∈ lw_all, w.before _ ss = true := fun w h => hts w (List.mem_cons_of_mem _ h)
  have hown : ss.vm.findClass RX0 = some mm.cls := findClass_of_methodNamed B.named
  have hlocks := B.notSynchronized
  have hD := hA.2.self
  have hS : va_S (mAd ad N) ss.heap ss.heap [] := va_S.rf
  have hNN := hA.1
  have hl := lv_entry ([.ref (ad 0), .int x, .ref (ad 19)]) (n := 6) (Nat.le_of_ble_eq_true rfl)
  rw [lg_entry_eq]
  generalize (lg_sl ([.ref (ad 0), .int x, .ref (ad 19)]) ++ List.replicate (6 - (lg_sl ([.ref (ad 0), .int x, .ref (ad 19)])).length) Slot.unset).toArray = ls at hl ⊢
  have hl : lv_has ls 6 [(0, .ref (ad 0)), (1, .int x), (2, .ref (ad 19))] := hl
  refine lv_aload_n hx hb dX0_giveTo_0 rfl (lv_at hl 0 rfl) ?_
  refine mg_ref hx hb hts in_X0 hown hE hP 0 (xl_n hA (by decide)) rfl rfl 1 rfl (by decide) (hts _ q265) (fun _ h9 => h9) dX0_giveTo_1 ?_
  refine mg_refN hx hb hts in_X4 hown hE hP 1 (xl_n hA (by decide)) rfl rfl 0 rfl (by decide) q145 (fun _ h9 => h9) dX0_giveTo_4 ?_
  refine lv_iload_n hx hb dX0_giveTo_7 rfl (lv_at hl 1 rfl) ?_
  refine mg_ald hx hb hE hP 4 (xl_n hA (by decide)) rfl rfl a (by omega) hx0 (by decide) rfl dX0_giveTo_8 ?_
  refine lv_astore_n (lv' := [(3, .ref (ad (30 + 3 * a))), (0, .ref (ad 0)), (1, .int x), (2, .ref (ad 19))]) hx hb dX0_giveTo_9 rfl hl (by decide) rfl (fun ls hl => ?_)
  refine lv_iconst (v := 0) hx hb dX0_giveTo_10 (by decide) ?_
  refine lv_istore (lv' := [(4, .int 0), (3, .ref (ad (30 + 3 * a))), (0, .ref (ad 0)), (1, .int x), (2, .ref (ad 19))]) hx hb dX0_giveTo_11 hl (by decide) rfl (fun ls hl => ?_)
  have lp13 : ∀ (fu : Nat) (k : Nat) (_ : k ≤ 4) (_ : 4 - k < fu) (H : Heap) (locs : List Loc) (_ : va_P D xCl (mW dA (shX rr xs) ad N (gvF σ (30 + 3 * a) (4 * (n - 1)) k)) H) (_ : va_S (mAd ad N) ss.heap H locs) (ls : Array Slot) (_ : lv_has ls 6 [(4, .int (nI k)), (3, .ref (ad (30 + 3 * a))), (0, .ref (ad 0)), (1, .int x), (2, .ref (ad 19))]), W pp l ee (headSpec (ws_ yX0_giveTo cX0_giveTo 6 none) ({ frames := 0, cells := 0, slots := 0, locals := 0 })).room ss mm ([.ref (ad 0), .int x, .ref (ad 19)] : List Value).toArray below meth cd H locs 0 0 (MQ below (va_Qv (fun (u : mMem) => u = gvF σ (30 + 3 * a) (4 * (n - 1)) 4) (mB D dA (shX rr xs) ad N) (mAd ad N)) ([.ref (ad 0), .int x, .ref (ad 19)] : List Value).toArray ss 0 0 (mAd ad N)) (F0 mm 13 ls []) := by
    intro fu
    induction fu with
    | zero => intro k hk hfu; exact absurd hfu (Nat.not_lt_zero _)
    | succ fu ih13 =>
      intro k hk hfu H locs hP hS ls hl
      refine lv_iload hx hb dX0_giveTo_13 (lv_at hl 0 rfl) ?_
      refine lv_iconst (v := 4) hx hb dX0_giveTo_15 (by decide) ?_
      refine lv_icmp_ge (tgt := 69) hx hb dX0_giveTo_16 (by decide) (fun c_1 => ?_) (fun c_1 => ?_)
      · have nc_1 : 4 ≤ k := mi_le rfl rfl (by omega) (by omega) c_1
        exact W.vret hx hb hr (fun t ht hW => ⟨⟨_, rfl, by rw [show k = 4 by omega], mB.of ht hP⟩, hS.F ht⟩) hS.2.2 dX0_giveTo_69
      · have nc_1 : k < 4 := mi_nle rfl rfl (by omega) (by omega) c_1
        refine lv_aload_n hx hb dX0_giveTo_19 rfl (lv_at hl 1 rfl) ?_
        refine mg_refN hx hb hts in_X5 hown hE hP (30 + 3 * a) (xl_o hA (xw_p0 (p := a) (by omega))) (shX_o (xw_p0 (p := a) (by omega))) rfl 5 rfl (by decide) q123 (fun _ h9 => h9) dX0_giveTo_20 ?_
        refine lv_iconst (v := 4) hx hb dX0_giveTo_23 (by decide) ?_
        refine lv_aload_n hx hb dX0_giveTo_24 rfl (lv_at hl 1 rfl) ?_
        refine mg_getN hx hb hts in_X5 hown hE hP (30 + 3 * a) (xl_o hA (xw_p0 (p := a) (by omega))) (shX_o (xw_p0 (p := a) (by omega))) rfl 6 rfl (by decide) q127 (fun _ h9 => h9) dX0_giveTo_25 ?_
        refine lv_iconst (v := 1) hx hb dX0_giveTo_28 (by decide) ?_
        refine lv_isub hx hb dX0_giveTo_29 ?_
        refine lv_imul hx hb dX0_giveTo_30 ?_
        refine lv_iload hx hb dX0_giveTo_31 (lv_at hl 0 rfl) ?_
        refine lv_iadd hx hb dX0_giveTo_33 ?_
        refine mg_ild hx hb hE hP (30 + 3 * a + 2) (xl_c hA (xw_p0 (p := a) (by omega))) (shX_c (xw_p0 (p := a) (by omega))) ((4 * (n - 1)) + k) (by omega) (mi_add (mi_mul rfl (mi_sub (a := n) (b := 1) ((gvF_ne (by omega) (by omega)).trans hn) rfl (by omega))) rfl) (by decide) dX0_giveTo_34 ?_
        refine lv_istore (lv' := [(5, .int ((gvF σ (30 + 3 * a) (4 * (n - 1)) k) (30 + 3 * a + 2) ((4 * (n - 1)) + k))), (4, .int (nI k)), (3, .ref (ad (30 + 3 * a))), (0, .ref (ad 0)), (1, .int x), (2, .ref (ad 19))]) hx hb dX0_giveTo_35 hl (by decide) rfl (fun ls hl => ?_)
        refine lv_aload_n hx hb dX0_giveTo_37 rfl (lv_at hl 2 rfl) ?_
        refine mg_refN hx hb hts in_X5 hown hE hP (30 + 3 * a) (xl_o hA (xw_p0 (p := a) (by omega))) (shX_o (xw_p0 (p := a) (by omega))) rfl 5 rfl (by decide) q123 (fun _ h9 => h9) dX0_giveTo_38 ?_
        refine lv_iconst (v := 4) hx hb dX0_giveTo_41 (by decide) ?_
        refine lv_aload_n hx hb dX0_giveTo_42 rfl (lv_at hl 2 rfl) ?_
        refine mg_getN hx hb hts in_X5 hown hE hP (30 + 3 * a) (xl_o hA (xw_p0 (p := a) (by omega))) (shX_o (xw_p0 (p := a) (by omega))) rfl 6 rfl (by decide) q127 (fun _ h9 => h9) dX0_giveTo_43 ?_
        refine lv_iconst (v := 1) hx hb dX0_giveTo_46 (by decide) ?_
        refine lv_isub hx hb dX0_giveTo_47 ?_
        refine lv_imul hx hb dX0_giveTo_48 ?_
        refine lv_iload hx hb dX0_giveTo_49 (lv_at hl 1 rfl) ?_
        refine lv_iadd hx hb dX0_giveTo_51 ?_
        refine lv_aload_n hx hb dX0_giveTo_52 rfl (lv_at hl 5 rfl) ?_
        refine lv_iload hx hb dX0_giveTo_53 (lv_at hl 1 rfl) ?_
        refine mg_ild hx hb hE hP 19 (xl_n hA (by decide)) rfl k (by omega) rfl (by decide) dX0_giveTo_55 ?_
        refine mg_ist (v := (gvF σ (30 + 3 * a) (4 * (n - 1)) k) 19 k) hx hb hE hD hP hS (30 + 3 * a + 2) (xl_c hA (xw_p0 (p := a) (by omega))) (shX_c (xw_p0 (p := a) (by omega))) ((4 * (n - 1)) + k) (by omega) (mi_add (mi_mul rfl (mi_sub (a := n) (b := 1) ((gvF_ne (by omega) (by omega)).trans hn) rfl (by omega))) rfl) (by decide) dX0_giveTo_56 (fun H locs hP hS => ?_)
        refine lv_aload_n hx hb dX0_giveTo_57 rfl (lv_at hl 5 rfl) ?_
        refine lv_iload hx hb dX0_giveTo_58 (lv_at hl 1 rfl) ?_
        refine lv_iload hx hb dX0_giveTo_60 (lv_at hl 0 rfl) ?_
        refine mg_ist (v := (gvF σ (30 + 3 * a) (4 * (n - 1)) k) (30 + 3 * a + 2) ((4 * (n - 1)) + k)) hx hb hE hD hP hS 19 (xl_n hA (by decide)) rfl k (by omega) rfl (by decide) dX0_giveTo_62 (fun H locs hP hS => ?_)
        refine lv_iinc (v := (nI (k + 1))) (lv' := [(4, .int (nI (k + 1))), (5, .int ((gvF σ (30 + 3 * a) (4 * (n - 1)) k) (30 + 3 * a + 2) ((4 * (n - 1)) + k))), (3, .ref (ad (30 + 3 * a))), (0, .ref (ad 0)), (1, .int x), (2, .ref (ad 19))]) hx hb dX0_giveTo_63 hl (k := 1) rfl (mi_add rfl rfl) (by decide) rfl (fun ls hl => ?_)
        refine lv_goto (tgt := 13) hx hb dX0_giveTo_66 (by decide) ?_
        exact ih13  (k + 1) (by omega) (by omega) _ _ (m_eq (rfl) hP) hS ls (lv_sub hl [0, 2, 3, 4, 5] rfl)
  exact lp13 (4 - 0 + 1) 0 (by omega) (by omega) _ _ (m_eq (rfl) hP) hS ls (lv_sub hl [0, 1, 2, 3, 4] rfl)
set_option maxHeartbeats 4000000 in
set_option maxRecDepth 100000 in
theorem mt_X0_owed (l : Launch) (D : va_G) (dA : Nat → ClassId) (rr : Nat → Option Nat) (xs : Nat → mSh) (ad : Nat → Nat) (N : Nat) (hA : xA ad N) (σ : mMem) (g : Int32) (np : Nat) (nc : Nat → Nat) (ld : Nat → Nat → Nat) (hF : xF σ np nc ld) : Met l yX0_owed (ws_ yX0_owed cX0_owed 4 (some .int)) ({ frames := 2, cells := 0, slots := 0, locals := 44 }) (va_Pc [.ref (ad 0), .int g] (mPre D dA (shX rr xs) ad N σ)) (vp_Si (fun r : Int32 => r = (if ik g 5 then owm (owS σ nc g np) else -1))) 0 0 (fun _ => False) := by
  refine Met.ofW (cc := cX0_owed) (maxL := 4) (ret := (some .int)) (by decide) rfl ?_
  intro pp ee ss mm args below meth cd s₁ B hml hv
  obtain ⟨rfl, hP, hE⟩ := hv
  have hx := B.exec
  have hb := B.bytes
  have hr := B.returns
  have hts := atoms_spec (ws := ws_ yX0_owed cX0_owed 4 (some .int)) B.pre
  have hts : ∀ w ∈ lw_all, w.before _ ss = true := fun w h => hts w (List.mem_cons_of_mem _ h)
  have hown : ss.vm.findClass RX0 = some mm.cls := findClass_of_methodNamed B.named
  have hlocks := B.notSynchronized
  have hNN := hA.1
  have hn5 := hF.n5
  have h8 : ∀ p, p < np → nc p ≤ 8 := fun p hp => hF.m8 hp
  have hl := lv_entry ([.ref (ad 0), .int g]) (n := 4) (Nat.le_of_ble_eq_true rfl)
  rw [lg_entry_eq]
  generalize (lg_sl ([.ref (ad 0), .int g]) ++ List.replicate (4 - (lg_sl ([.ref (ad 0), .int g])).length) Slot.unset).toArray = ls at hl ⊢
  have hl : lv_has ls 4 [(0, .ref (ad 0)), (1, .int g)] := hl
  refine lv_iload_n hx hb dX0_owed_0 rfl (lv_at hl 1 rfl) ?_
  refine vp_callSi (W.runS (As := [.int g]) (rest := []) ⟨hx, hb, hml, hown, hts⟩ (mt_X0_isLender l g) (va_cwS 1 hts (lw_S q390 q391 q45 q392) rfl rfl rfl (by decide +kernel) ⟨Nat.le_of_ble_eq_true rfl, Nat.le_of_ble_eq_true rfl⟩) ⟨fun _ _ _ _ h => h, fun _ _ _ => ⟨rfl, trivial⟩⟩ rfl rfl hl.1 rfl (lv_room (Nat.le_of_ble_eq_true rfl)) dX0_owed_1 ⟨Nat.le_of_ble_eq_true rfl, Nat.le_of_ble_eq_true rfl⟩) (fun r_1 hr_1 => ?_)
  subst hr_1
  refine lv_if_ne (tgt := 9) hx hb dX0_owed_4 (by decide) (fun c_2 => ?_) (fun c_2 => ?_)
  · have c_2 : ik g 5 := bi_t c_2
    have c_2_lt := ik_lt c_2
    refine lv_iconst (v := 0) hx hb dX0_owed_9 (by decide) ?_
    refine lv_istore_n (lv' := [(2, .int 0), (0, .ref (ad 0)), (1, .int g)]) hx hb dX0_owed_10 rfl hl (by decide) rfl (fun ls hl => ?_)
    refine lv_iconst (v := 0) hx hb dX0_owed_11 (by decide) ?_
    refine lv_istore_n (lv' := [(3, .int 0), (2, .int 0), (0, .ref (ad 0)), (1, .int g)]) hx hb dX0_owed_12 rfl hl (by decide) rfl (fun ls hl => ?_)
    have lp13 : ∀ (fu : Nat) (p : Nat) (_ : p ≤ np) (_ : np - p < fu) (ls : Array Slot) (_ : lv_has ls 4 [(3, .int (nI p)), (2, .int (owS σ nc g p)), (0, .ref (ad 0)), (1, .int g)]), W pp l ee (headSpec (ws_ yX0_owed cX0_owed 4 (some .int)) ({ frames := 2, cells := 0, slots := 0, locals := 44 })).room ss mm ([.ref (ad 0), .int g] : List Value).toArray below meth cd ss.heap [] 0 0 (MQ below (vp_Si (fun r : Int32 => r = (if ik g 5 then owm (owS σ nc g np) else -1))) ([.ref (ad 0), .int g] : List Value).toArray ss 0 0 (fun _ => False)) (F0 mm 13 ls []) := by
      intro fu
      induction fu with
      | zero => intro p hp hfu; exact absurd hfu (Nat.not_lt_zero _)
      | succ fu ih13 =>
        intro p hp hfu ls hl
        refine lv_iload_n hx hb dX0_owed_13 rfl (lv_at hl 0 rfl) ?_
        refine lv_aload_n hx hb dX0_owed_14 rfl (lv_at hl 2 rfl) ?_
        refine mg_ref hx hb hts in_X0 hown hE hP 0 (xl_n hA (by decide)) rfl rfl 1 rfl (by decide) (hts _ q265) (fun _ h9 => h9) dX0_owed_15 ?_
        refine mg_getN hx hb hts in_X4 hown hE hP 1 (xl_n hA (by decide)) rfl rfl 3 rfl (by decide) q151 (fun _ h9 => h9) dX0_owed_18 ?_
        refine lv_icmp_ge (tgt := 46) hx hb dX0_owed_21 (by decide) (fun c_3 => ?_) (fun c_3 => ?_)
        · have nc_3 : np ≤ p := mi_le hF.n rfl (by omega) (by omega) c_3
          refine lv_ldc hx hb hown (hts _ q374) dX0_owed_46 ?_
          refine lv_iload_n hx hb dX0_owed_48 rfl (lv_at hl 1 rfl) ?_
          refine va_mmin hx hb (by rw [hml]; exact hl.1.symm) hown (hts _ q375) (hts _ q376) (hts _ q56) (hts _ q377) (Nat.le_of_ble_eq_true rfl) (Nat.le_of_ble_eq_true rfl) (Nat.le_of_ble_eq_true rfl) (Nat.le_of_ble_eq_true rfl) dX0_owed_49 ?_
          exact W.iret (v := (if (owS σ nc g p) < 9999999 then (owS σ nc g p) else 9999999)) hx hb hr (fun t ht hW => ⟨_, rfl, by dsimp only; rw [if_pos c_2, show p = np by omega]; rfl, ht⟩) (fun q hq => by cases hq) dX0_owed_52
        · have nc_3 : p < np := mi_nle hF.n rfl (by omega) (by omega) c_3
          have h8p := h8 p (by omega)
          refine lv_iload_n hx hb dX0_owed_24 rfl (lv_at hl 1 rfl) ?_
          refine lv_aload_n hx hb dX0_owed_25 rfl (lv_at hl 2 rfl) ?_
          refine mg_ref hx hb hts in_X0 hown hE hP 0 (xl_n hA (by decide)) rfl rfl 1 rfl (by decide) (hts _ q265) (fun _ h9 => h9) dX0_owed_26 ?_
          refine mg_refN hx hb hts in_X4 hown hE hP 1 (xl_n hA (by decide)) rfl rfl 0 rfl (by decide) q145 (fun _ h9 => h9) dX0_owed_29 ?_
          refine lv_iload_n hx hb dX0_owed_32 rfl (lv_at hl 0 rfl) ?_
          refine mg_ald hx hb hE hP 4 (xl_n hA (by decide)) rfl rfl p (by omega) rfl (by decide) rfl dX0_owed_33 ?_
          refine lv_iload_n hx hb dX0_owed_34 rfl (lv_at hl 3 rfl) ?_
          refine vp_callSi (W.runS (As := [.ref (ad (30 + 3 * p)), .int g]) (rest := [.int (owS σ nc g p)]) ⟨hx, hb, hml, hown, hts⟩ (mt_X0_owedBy l D dA rr xs ad N hA σ (30 + 3 * p) (xw_p0 (p := p) (by omega)) g (nc p) (hF.m (by omega)) (by omega)) (va_cwS 2 hts (lw_S q363 q364 q45 q365) rfl rfl rfl (by decide +kernel) ⟨Nat.le_of_ble_eq_true rfl, Nat.le_of_ble_eq_true rfl⟩) ⟨mPre.blind, mPre.at hE hP⟩ rfl rfl hl.1 rfl (lv_room (Nat.le_of_ble_eq_true rfl)) dX0_owed_35 ⟨Nat.le_of_ble_eq_true rfl, Nat.le_of_ble_eq_true rfl⟩) (fun r_4 hr_4 => ?_)
          subst hr_4
          refine lv_iadd hx hb dX0_owed_38 ?_
          refine lv_istore_n (lv' := [(2, .int ((owS σ nc g p) + (owm (ows (σ (30 + 3 * p + 2)) g (nc p))))), (3, .int (nI p)), (0, .ref (ad 0)), (1, .int g)]) hx hb dX0_owed_39 rfl hl (by decide) rfl (fun ls hl => ?_)
          refine lv_iinc (v := (nI (p + 1))) (lv' := [(3, .int (nI (p + 1))), (2, .int ((owS σ nc g p) + (owm (ows (σ (30 + 3 * p + 2)) g (nc p))))), (0, .ref (ad 0)), (1, .int g)]) hx hb dX0_owed_40 hl (k := 1) rfl (mi_add rfl rfl) (by decide) rfl (fun ls hl => ?_)
          refine lv_goto (tgt := 13) hx hb dX0_owed_43 (by decide) ?_
          exact ih13  (p + 1) (by omega) (by omega) ls (lv_sub hl [0, 1, 2, 3] rfl)
    exact lp13 (np - 0 + 1) 0 (by omega) (by omega) ls (lv_sub hl [0, 1, 2, 3] rfl)
  · have c_2 : ¬ (ik g 5) := bi_f c_2
    refine lv_iconst (v := (-1)) hx hb dX0_owed_7 (by decide) ?_
    exact W.iret (v := (-1)) hx hb hr (fun t ht hW => ⟨_, rfl, by dsimp only; rw [if_neg c_2], ht⟩) (fun q hq => by cases hq) dX0_owed_8
set_option maxHeartbeats 4000000 in
set_option maxRecDepth 100000 in
theorem mt_X0_bears (l : Launch) (D : va_G) (dA : Nat → ClassId) (rr : Nat → Option Nat) (xs : Nat → mSh) (ad : Nat → Nat) (N : Nat) (hA : xA ad N) (σ : mMem) (p : Int32) (np : Nat) (nc : Nat → Nat) (ld : Nat → Nat → Nat) (hF : xF σ np nc ld) (dy : Nat) (hdy0 : σ 1 4 = nI dy) (hdy : dy < 360) : Met l yX0_bears (ws_ yX0_bears cX0_bears 3 (some .int)) ({ frames := 2, cells := 0, slots := 0, locals := 43 }) (va_Pc [.ref (ad 0), .int p] (mPre D dA (shX rr xs) ad N σ)) (vp_Si (fun r : Int32 => r = (if ik p np then brs σ (30 + 3 * tn p) (nc (tn p)) dy (359 - dy) (dy + 1) else -1))) 0 0 (fun _ => False) := by
  refine Met.ofW (cc := cX0_bears) (maxL := 3) (ret := (some .int)) (by decide) rfl ?_
  intro pp ee ss mm args below meth cd s₁ B hml hv
  obtain ⟨rfl, hP, hE⟩ := hv
  have hx := B.exec
  have hb := B.bytes
  have hr := B.returns
  have hts := atoms_spec (ws := ws_ yX0_bears cX0_bears 3 (some .int)) B.pre
  have hts : ∀ w ∈ lw_all, w.before _ ss = true := fun w h => hts w (List.mem_cons_of_mem _ h)
  have hown : ss.vm.findClass RX0 = some mm.cls := findClass_of_methodNamed B.named
  have hlocks := B.notSynchronized
  have hNN := hA.1
  have hn5 := hF.n5
  have hl := lv_entry ([.ref (ad 0), .int p]) (n := 3) (Nat.le_of_ble_eq_true rfl)
  rw [lg_entry_eq]
  generalize (lg_sl ([.ref (ad 0), .int p]) ++ List.replicate (3 - (lg_sl ([.ref (ad 0), .int p])).length) Slot.unset).toArray = ls at hl ⊢
  have hl : lv_has ls 3 [(0, .ref (ad 0)), (1, .int p)] := hl
  refine lv_aload_n hx hb dX0_bears_0 rfl (lv_at hl 0 rfl) ?_
  refine lv_iload_n hx hb dX0_bears_1 rfl (lv_at hl 1 rfl) ?_
  refine vp_callSi (W.runV (As := [.int p]) (rest := []) ⟨hx, hb, hml, hown, hts⟩ (mt_X0_isPerson l D dA rr xs ad N hA σ p np hF.n hF.n5) (cwV 1 hts (lw_V q355 q357 qs2 q45 q358) rfl rfl rfl (by decide +kernel) ⟨Nat.le_of_ble_eq_true rfl, Nat.le_of_ble_eq_true rfl⟩) ⟨mPre.blind, m_recv hE hP 0 (xl_n hA (by decide)) rfl rfl, mPre.at hE hP⟩ rfl rfl hl.1 rfl (lv_room (Nat.le_of_ble_eq_true rfl)) dX0_bears_2 ⟨Nat.le_of_ble_eq_true rfl, Nat.le_of_ble_eq_true rfl⟩) (fun r_1 hr_1 => ?_)
  subst hr_1
  refine lv_if_ne (tgt := 10) hx hb dX0_bears_5 (by decide) (fun c_2 => ?_) (fun c_2 => ?_)
  · have c_2 : ik p np := bi_t c_2
    have c_2_lt := ik_lt c_2
    have c_2_m := hF.m c_2_lt
    have c_2_8 := hF.m8 c_2_lt
    refine lv_aload_n hx hb dX0_bears_10 rfl (lv_at hl 0 rfl) ?_
    refine mg_ref hx hb hts in_X0 hown hE hP 0 (xl_n hA (by decide)) rfl rfl 1 rfl (by decide) (hts _ q265) (fun _ h9 => h9) dX0_bears_11 ?_
    refine mg_getN hx hb hts in_X4 hown hE hP 1 (xl_n hA (by decide)) rfl rfl 4 rfl (by decide) q153 (fun _ h9 => h9) dX0_bears_14 ?_
    refine lv_iconst (v := 1) hx hb dX0_bears_17 (by decide) ?_
    refine lv_iadd hx hb dX0_bears_18 ?_
    refine lv_rwi (mi_add hdy0 rfl) ?_
    refine lv_istore_n (lv' := [(2, .int (nI (dy + 1))), (0, .ref (ad 0)), (1, .int p)]) hx hb dX0_bears_19 rfl hl (by decide) rfl (fun ls hl => ?_)
    have lp20 : ∀ (fu : Nat) (d : Nat) (_ : d ≤ 360) (_ : dy < d) (_ : brs σ (30 + 3 * tn p) (nc (tn p)) dy (359 - dy) (dy + 1) = brs σ (30 + 3 * tn p) (nc (tn p)) dy (360 - d) d) (_ : 360 - d < fu) (ls : Array Slot) (_ : lv_has ls 3 [(2, .int (nI d)), (0, .ref (ad 0)), (1, .int p)]), W pp l ee (headSpec (ws_ yX0_bears cX0_bears 3 (some .int)) ({ frames := 2, cells := 0, slots := 0, locals := 43 })).room ss mm ([.ref (ad 0), .int p] : List Value).toArray below meth cd ss.heap [] 0 0 (MQ below (vp_Si (fun r : Int32 => r = (if ik p np then brs σ (30 + 3 * tn p) (nc (tn p)) dy (359 - dy) (dy + 1) else -1))) ([.ref (ad 0), .int p] : List Value).toArray ss 0 0 (fun _ => False)) (F0 mm 20 ls []) := by
      intro fu
      induction fu with
      | zero => intro d hd hd1 hbr hfu; exact absurd hfu (Nat.not_lt_zero _)
      | succ fu ih20 =>
        intro d hd hd1 hbr hfu ls hl
        refine lv_iload_n hx hb dX0_bears_20 rfl (lv_at hl 0 rfl) ?_
        refine lv_sipush (v := 359) hx hb dX0_bears_21 (by decide) ?_
        refine lv_icmp_gt (tgt := 66) hx hb dX0_bears_24 (by decide) (fun c_3 => ?_) (fun c_3 => ?_)
        · have nc_3 : 359 < d := mi_lt rfl rfl (by omega) (by omega) c_3
          refine lv_bipush (v := (-4)) hx hb dX0_bears_66 (by decide) ?_
          exact W.iret (v := (-4)) hx hb hr (fun t ht hW => ⟨_, rfl, by dsimp only; rw [if_pos c_2, hbr, show 360 - d = 0 by omega]; rfl, ht⟩) (fun q hq => by cases hq) dX0_bears_68
        · have nc_3 : d ≤ 359 := mi_nlt rfl rfl (by omega) (by omega) c_3
          refine lv_aload_n hx hb dX0_bears_27 rfl (lv_at hl 1 rfl) ?_
          refine mg_ref hx hb hts in_X0 hown hE hP 0 (xl_n hA (by decide)) rfl rfl 1 rfl (by decide) (hts _ q265) (fun _ h9 => h9) dX0_bears_28 ?_
          refine mg_refN hx hb hts in_X4 hown hE hP 1 (xl_n hA (by decide)) rfl rfl 0 rfl (by decide) q145 (fun _ h9 => h9) dX0_bears_31 ?_
          refine lv_iload_n hx hb dX0_bears_34 rfl (lv_at hl 2 rfl) ?_
          refine mg_ald hx hb hE hP 4 (xl_n hA (by decide)) rfl rfl (tn p) (by omega) (ik_eq c_2) (by decide) rfl dX0_bears_35 ?_
          refine lv_aload_n hx hb dX0_bears_36 rfl (lv_at hl 1 rfl) ?_
          refine mg_ref hx hb hts in_X0 hown hE hP 0 (xl_n hA (by decide)) rfl rfl 1 rfl (by decide) (hts _ q265) (fun _ h9 => h9) dX0_bears_37 ?_
          refine lv_iload_n hx hb dX0_bears_40 rfl (lv_at hl 0 rfl) ?_
          refine vp_callSi (W.runV (As := [.int (nI d)]) (rest := [.ref (ad (30 + 3 * (tn p)))]) ⟨hx, hb, hml, hown, hts⟩ (mt_X4_heat_0 l D dA rr xs ad N hA σ (nI d) d rfl (by omega)) (cwV 1 hts (lw_V q583 q500 q501 q49 q502) rfl rfl rfl (by decide +kernel) ⟨Nat.le_of_ble_eq_true rfl, Nat.le_of_ble_eq_true rfl⟩) ⟨mPre.blind, m_recv hE hP 1 (xl_n hA (by decide)) rfl rfl, mPre.at hE hP⟩ rfl rfl hl.1 rfl (lv_room (Nat.le_of_ble_eq_true rfl)) dX0_bears_41 ⟨Nat.le_of_ble_eq_true rfl, Nat.le_of_ble_eq_true rfl⟩) (fun r_4 hr_4 => ?_)
          subst hr_4
          refine vp_callSi (W.runV (As := [.int (σ 7 (d / 30))]) (rest := []) ⟨hx, hb, hml, hown, hts⟩ (mt_X5_bears l D dA rr xs ad N hA σ (30 + 3 * (tn p)) (xw_p0 (p := tn p) (by omega)) (σ 7 (d / 30)) (nc (tn p)) c_2_m (by omega)) (cwV 1 hts (lw_V q584 q504 q505 q50 q506) rfl rfl rfl (by decide +kernel) ⟨Nat.le_of_ble_eq_true rfl, Nat.le_of_ble_eq_true rfl⟩) ⟨mPre.blind, m_recv hE hP (30 + 3 * (tn p)) (xl_o hA (xw_p0 (p := tn p) (by omega))) (shX_o (xw_p0 (p := tn p) (by omega))) rfl, mPre.at hE hP⟩ rfl rfl hl.1 rfl (lv_room (Nat.le_of_ble_eq_true rfl)) dX0_bears_44 ⟨Nat.le_of_ble_eq_true rfl, Nat.le_of_ble_eq_true rfl⟩) (fun r_5 hr_5 => ?_)
          subst hr_5
          refine lv_if_ne (tgt := 60) hx hb dX0_bears_47 (by decide) (fun c_6 => ?_) (fun c_6 => ?_)
          · have c_6 : thk (σ (30 + 3 * (tn p) + 2)) (nc (tn p)) ≤ mx0 (σ (30 + 3 * (tn p)) 2 - σ 7 (d / 30)) := bi_t c_6
            refine lv_iinc (v := (nI (d + 1))) (lv' := [(2, .int (nI (d + 1))), (0, .ref (ad 0)), (1, .int p)]) hx hb dX0_bears_60 hl (k := 0) rfl (mi_add rfl rfl) (by decide) rfl (fun ls hl => ?_)
            refine lv_goto (tgt := 20) hx hb dX0_bears_63 (by decide) ?_
            exact ih20  (d + 1) (by omega) (by omega) (by rw [hbr, show 360 - d = (360 - (d + 1)) + 1 by omega, brs, if_pos c_6]) (by omega) ls (lv_sub hl [0, 1, 2] rfl)
          · have c_6 : ¬ (thk (σ (30 + 3 * (tn p) + 2)) (nc (tn p)) ≤ mx0 (σ (30 + 3 * (tn p)) 2 - σ 7 (d / 30))) := bi_f c_6
            refine lv_iload_n hx hb dX0_bears_50 rfl (lv_at hl 0 rfl) ?_
            refine lv_aload_n hx hb dX0_bears_51 rfl (lv_at hl 1 rfl) ?_
            refine mg_ref hx hb hts in_X0 hown hE hP 0 (xl_n hA (by decide)) rfl rfl 1 rfl (by decide) (hts _ q265) (fun _ h9 => h9) dX0_bears_52 ?_
            refine mg_getN hx hb hts in_X4 hown hE hP 1 (xl_n hA (by decide)) rfl rfl 4 rfl (by decide) q153 (fun _ h9 => h9) dX0_bears_55 ?_
            refine lv_isub hx hb dX0_bears_58 ?_
            exact W.iret (v := ((nI d) - σ 1 4)) hx hb hr (fun t ht hW => ⟨_, rfl, by dsimp only; rw [if_pos c_2, hbr, show 360 - d = (359 - d) + 1 by omega, brs, if_neg c_6]; exact mi_sub rfl hdy0 (by omega), ht⟩) (fun q hq => by cases hq) dX0_bears_59
    exact lp20 (360 - dy + 1 + 1) (dy + 1) (by omega) (by omega) (by rw [show 360 - (dy + 1) = 359 - dy by omega]) (by omega) ls (lv_sub hl [0, 1, 2] rfl)
  · have c_2 : ¬ (ik p np) := bi_f c_2
    refine lv_iconst (v := (-1)) hx hb dX0_bears_8 (by decide) ?_
    exact W.iret (v := (-1)) hx hb hr (fun t ht hW => ⟨_, rfl, by dsimp only; rw [if_neg c_2], ht⟩) (fun q hq => by cases hq) dX0_bears_9
set_option maxHeartbeats 4000000 in
set_option maxRecDepth 100000 in
theorem mt_X0_ware (l : Launch) (D : va_G) (dA : Nat → ClassId) (rr : Nat → Option Nat) (xs : Nat → mSh) (ad : Nat → Nat) (N : Nat) (hA : xA ad N) (σ : mMem) (a d : Int32) (nw : Nat) (hnw : σ 0 19 = nI nw) (hnw8 : nw ≤ 8) : Met l yX0_ware (ws_ yX0_ware cX0_ware 3 (some .int)) ({ frames := 1, cells := 0, slots := 0, locals := 22 }) (va_Pc [.ref (ad 0), .int a, .int d] (mPre D dA (shX rr xs) ad N σ)) (va_Qi (fun (r : Int32) (u : mMem) => (if iv a 1 9999 then (if iv d 1 9 then (if nw = 8 then (r = -3 ∧ u = σ) else (r = nI nw ∧ u = mup (mup (mup σ 22 nw a) 23 nw d) 0 19 (nI (nw + 1)))) else (r = -1 ∧ u = σ)) else (r = -1 ∧ u = σ))) (mB D dA (shX rr xs) ad N) (mAd ad N)) 0 0 (mAd ad N) := by
  refine Met.ofW (cc := cX0_ware) (maxL := 3) (ret := (some .int)) (by decide) rfl ?_
  intro pp ee ss mm args below meth cd s₁ B hml hv
  obtain ⟨rfl, hP, hE⟩ := hv
  have hx := B.exec
  have hb := B.bytes
  have hr := B.returns
  have hts := atoms_spec (ws := ws_ yX0_ware cX0_ware 3 (some .int)) B.pre
  have hts : ∀ w ∈ lw_all, w.before _ ss = true := fun w h => hts w (List.mem_cons_of_mem _ h)
  have hown : ss.vm.findClass RX0 = some mm.cls := findClass_of_methodNamed B.named
  have hlocks := B.notSynchronized
  have hD := hA.2.self
  have hS : va_S (mAd ad N) ss.heap ss.heap [] := va_S.rf
  have hNN := hA.1
  have hl := lv_entry ([.ref (ad 0), .int a, .int d]) (n := 3) (Nat.le_of_ble_eq_true rfl)
  rw [lg_entry_eq]
  generalize (lg_sl ([.ref (ad 0), .int a, .int d]) ++ List.replicate (3 - (lg_sl ([.ref (ad 0), .int a, .int d])).length) Slot.unset).toArray = ls at hl ⊢
  have hl : lv_has ls 3 [(0, .ref (ad 0)), (1, .int a), (2, .int d)] := hl
  refine lv_iload_n hx hb dX0_ware_0 rfl (lv_at hl 1 rfl) ?_
  refine lv_iconst (v := 1) hx hb dX0_ware_1 (by decide) ?_
  refine lv_sipush (v := 9999) hx hb dX0_ware_2 (by decide) ?_
  refine vp_callSi (W.runS (As := [.int a, .int 1, .int 9999]) (rest := []) ⟨hx, hb, hml, hown, hts⟩ (mt_X0_isIn l a 1 9999) (va_cwS 3 hts (lw_S q344 q345 q45 q346) rfl rfl rfl (by decide +kernel) ⟨Nat.le_of_ble_eq_true rfl, Nat.le_of_ble_eq_true rfl⟩) ⟨fun _ _ _ _ h => h, fun _ _ _ => ⟨rfl, trivial⟩⟩ rfl rfl hl.1 rfl (lv_room (Nat.le_of_ble_eq_true rfl)) dX0_ware_5 ⟨Nat.le_of_ble_eq_true rfl, Nat.le_of_ble_eq_true rfl⟩) (fun r_1 hr_1 => ?_)
  subst hr_1
  refine lv_rwi (bi_c (iv_of rfl rfl)) ?_
  refine lv_if_eq (tgt := 21) hx hb dX0_ware_8 (by decide) (fun c_2 => ?_) (fun c_2 => ?_)
  · have c_2 : ¬ (iv a 1 9999) := bi_f c_2
    refine lv_iconst (v := (-1)) hx hb dX0_ware_21 (by decide) ?_
    exact W.iret (v := (-1)) hx hb hr (fun t ht hW => ⟨⟨_, _, rfl, by dsimp only; rw [if_neg c_2]; exact ⟨rfl, rfl⟩, mB.of ht hP⟩, hS.F ht⟩) hS.2.2 dX0_ware_22
  · have c_2 : iv a 1 9999 := bi_t c_2
    have c_2_tn := iv_tn c_2 (by decide)
    refine lv_iload_n hx hb dX0_ware_11 rfl (lv_at hl 2 rfl) ?_
    refine lv_iconst (v := 1) hx hb dX0_ware_12 (by decide) ?_
    refine lv_bipush (v := 9) hx hb dX0_ware_13 (by decide) ?_
    refine vp_callSi (W.runS (As := [.int d, .int 1, .int 9]) (rest := []) ⟨hx, hb, hml, hown, hts⟩ (mt_X0_isIn l d 1 9) (va_cwS 3 hts (lw_S q344 q345 q45 q346) rfl rfl rfl (by decide +kernel) ⟨Nat.le_of_ble_eq_true rfl, Nat.le_of_ble_eq_true rfl⟩) ⟨fun _ _ _ _ h => h, fun _ _ _ => ⟨rfl, trivial⟩⟩ rfl rfl hl.1 rfl (lv_room (Nat.le_of_ble_eq_true rfl)) dX0_ware_15 ⟨Nat.le_of_ble_eq_true rfl, Nat.le_of_ble_eq_true rfl⟩) (fun r_3 hr_3 => ?_)
    subst hr_3
    refine lv_rwi (bi_c (iv_of rfl rfl)) ?_
    refine lv_if_ne (tgt := 23) hx hb dX0_ware_18 (by decide) (fun c_4 => ?_) (fun c_4 => ?_)
    · have c_4 : iv d 1 9 := bi_t c_4
      have c_4_tn := iv_tn c_4 (by decide)
      refine lv_aload_n hx hb dX0_ware_23 rfl (lv_at hl 0 rfl) ?_
      refine mg_get hx hb hts in_X0 hown hE hP 0 (xl_n hA (by decide)) rfl rfl 19 rfl (by decide) (hts _ q283) (fun _ h9 => h9) dX0_ware_24 ?_
      refine lv_bipush (v := 8) hx hb dX0_ware_27 (by decide) ?_
      refine lv_icmp_ne (tgt := 35) hx hb dX0_ware_29 (by decide) (fun c_5 => ?_) (fun c_5 => ?_)
      · have nc_5 : nw ≠ 8 := mi_ne hnw rfl (by omega) (by omega) c_5
        refine lv_aload_n hx hb dX0_ware_35 rfl (lv_at hl 0 rfl) ?_
        refine mg_ref hx hb hts in_X0 hown hE hP 0 (xl_n hA (by decide)) rfl rfl 17 rfl (by decide) (hts _ q281) (fun _ h9 => h9) dX0_ware_36 ?_
        refine lv_aload_n hx hb dX0_ware_39 rfl (lv_at hl 0 rfl) ?_
        refine mg_get hx hb hts in_X0 hown hE hP 0 (xl_n hA (by decide)) rfl rfl 19 rfl (by decide) (hts _ q283) (fun _ h9 => h9) dX0_ware_40 ?_
        refine lv_iload_n hx hb dX0_ware_43 rfl (lv_at hl 1 rfl) ?_
        refine mg_ist (v := a) hx hb hE hD hP hS 22 (xl_n hA (by decide)) rfl nw (by omega) hnw (by decide) dX0_ware_44 (fun H locs hP hS => ?_)
        refine lv_aload_n hx hb dX0_ware_45 rfl (lv_at hl 0 rfl) ?_
        refine mg_ref hx hb hts in_X0 hown hE hP 0 (xl_n hA (by decide)) rfl rfl 18 rfl (by decide) (hts _ q282) (fun _ h9 => h9) dX0_ware_46 ?_
        refine lv_aload_n hx hb dX0_ware_49 rfl (lv_at hl 0 rfl) ?_
        refine mg_get hx hb hts in_X0 hown hE hP 0 (xl_n hA (by decide)) rfl rfl 19 rfl (by decide) (hts _ q283) (fun _ h9 => h9) dX0_ware_50 ?_
        refine lv_rwi (mup_ne1 (by omega)) ?_
        refine lv_iload_n hx hb dX0_ware_53 rfl (lv_at hl 2 rfl) ?_
        refine mg_ist (v := d) hx hb hE hD hP hS 23 (xl_n hA (by decide)) rfl nw (by omega) hnw (by decide) dX0_ware_54 (fun H locs hP hS => ?_)
        refine lv_aload_n hx hb dX0_ware_55 rfl (lv_at hl 0 rfl) ?_
        refine lv_dup hx hb dX0_ware_56 rfl ?_
        refine mg_get hx hb hts in_X0 hown hE hP 0 (xl_n hA (by decide)) rfl rfl 19 rfl (by decide) (hts _ q283) (fun _ h9 => h9) dX0_ware_57 ?_
        refine lv_rwi ((mup_ne1 (by omega)).trans (mup_ne1 (by omega))) ?_
        refine lv_iconst (v := 1) hx hb dX0_ware_60 (by decide) ?_
        refine lv_iadd hx hb dX0_ware_61 ?_
        refine lv_rwi (mi_add hnw rfl) ?_
        refine mg_put (v := (nI (nw + 1))) (ty := .int) hx hb hts in_X0 tyX0 tyX0_ok nmX0 hown hE hD hP hS 0 (xl_n hA (by decide)) rfl rfl 19 rfl (by decide) (hts _ q283) (fun _ h9 => h9) rfl (by decide +kernel) rfl rfl dX0_ware_62 (fun H locs hP hS => ?_)
        refine lv_aload_n hx hb dX0_ware_65 rfl (lv_at hl 0 rfl) ?_
        refine mg_get hx hb hts in_X0 hown hE hP 0 (xl_n hA (by decide)) rfl rfl 19 rfl (by decide) (hts _ q283) (fun _ h9 => h9) dX0_ware_66 ?_
        refine lv_rwi (mup_self _ _ _ _) ?_
        refine lv_iconst (v := 1) hx hb dX0_ware_69 (by decide) ?_
        refine lv_isub hx hb dX0_ware_70 ?_
        exact W.iret (v := ((nI (nw + 1)) - 1)) hx hb hr (fun t ht hW => ⟨⟨_, _, rfl, by dsimp only; rw [if_pos c_2, if_pos c_4, if_neg nc_5]; exact ⟨nI_pred nw, rfl⟩, mB.of ht hP⟩, hS.F ht⟩) hS.2.2 dX0_ware_71
      · have nc_5 : nw = 8 := mi_eq hnw rfl (by omega) (by omega) c_5
        refine lv_bipush (v := (-3)) hx hb dX0_ware_32 (by decide) ?_
        exact W.iret (v := (-3)) hx hb hr (fun t ht hW => ⟨⟨_, _, rfl, by dsimp only; rw [if_pos c_2, if_pos c_4, if_pos nc_5]; exact ⟨rfl, rfl⟩, mB.of ht hP⟩, hS.F ht⟩) hS.2.2 dX0_ware_34
    · have c_4 : ¬ (iv d 1 9) := bi_f c_4
      refine lv_iconst (v := (-1)) hx hb dX0_ware_21 (by decide) ?_
      exact W.iret (v := (-1)) hx hb hr (fun t ht hW => ⟨⟨_, _, rfl, by dsimp only; rw [if_pos c_2, if_neg c_4]; exact ⟨rfl, rfl⟩, mB.of ht hP⟩, hS.F ht⟩) hS.2.2 dX0_ware_22
set_option maxHeartbeats 4000000 in
set_option maxRecDepth 100000 in
theorem mt_X0_image (l : Launch) (D : va_G) (dA : Nat → ClassId) (rr : Nat → Option Nat) (xs : Nat → mSh) (ad : Nat → Nat) (N : Nat) (hA : xA ad N) (σ : mMem)  : Met l yX0_image (ws_ yX0_image cX0_image 1 (some .int)) ({ frames := 3, cells := 0, slots := 0, locals := 103 }) (va_Pc [.ref (ad 0)] (mPre D dA (shX rr xs) ad N σ)) (va_Qi (fun (r : Int32) (u : mMem) => r = 1 ∧ u = imgX σ) (mB D dA (shX rr xs) ad N) (mAd ad N)) 0 0 (mAd ad N) := by
  refine Met.ofW (cc := cX0_image) (maxL := 1) (ret := (some .int)) (by decide) rfl ?_
  intro pp ee ss mm args below meth cd s₁ B hml hv
  obtain ⟨rfl, hP, hE⟩ := hv
  have hx := B.exec
  have hb := B.bytes
  have hr := B.returns
  have hts := atoms_spec (ws := ws_ yX0_image cX0_image 1 (some .int)) B.pre
  have hts : ∀ w ∈ lw_all, w.before _ ss = true := fun w h => hts w (List.mem_cons_of_mem _ h)
  have hown : ss.vm.findClass RX0 = some mm.cls := findClass_of_methodNamed B.named
  have hlocks := B.notSynchronized
  have hD := hA.2.self
  have hS : va_S (mAd ad N) ss.heap ss.heap [] := va_S.rf
  have hNN := hA.1
  have hl := lv_entry ([.ref (ad 0)]) (n := 1) (Nat.le_of_ble_eq_true rfl)
  rw [lg_entry_eq]
  generalize (lg_sl ([.ref (ad 0)]) ++ List.replicate (1 - (lg_sl ([.ref (ad 0)])).length) Slot.unset).toArray = ls at hl ⊢
  have hl : lv_has ls 1 [(0, .ref (ad 0))] := hl
  refine lv_aload_n hx hb dX0_image_0 rfl (lv_at hl 0 rfl) ?_
  refine mg_ref hx hb hts in_X0 hown hE hP 0 (xl_n hA (by decide)) rfl rfl 21 rfl (by decide) (hts _ q285) (fun _ h9 => h9) dX0_image_1 ?_
  refine lv_aload_n hx hb dX0_image_4 rfl (lv_at hl 0 rfl) ?_
  refine mg_ref hx hb hts in_X0 hown hE hP 0 (xl_n hA (by decide)) rfl rfl 1 rfl (by decide) (hts _ q265) (fun _ h9 => h9) dX0_image_5 ?_
  refine va_callv (va_runV (As := [.ref (ad 1)]) (rest := []) ⟨hx, hb, hml, hown, hts⟩ (mt_X4_takeFrom_20 l D dA rr xs ad N hA σ) (cwV 1 hts (lw_V q597 q598 q599 q49 q600) rfl rfl rfl (by decide +kernel) ⟨Nat.le_of_ble_eq_true rfl, Nat.le_of_ble_eq_true rfl⟩) ⟨mPre.blind, m_recv hE hP 3 (xl_n hA (by decide)) rfl rfl, mPre.at hE hP⟩ rfl rfl hl.1 rfl (lv_room (Nat.le_of_ble_eq_true rfl)) dX0_image_8 ⟨Nat.le_of_ble_eq_true rfl, Nat.le_of_ble_eq_true rfl⟩) hS (fun q _ h => h) (fun q h => h) (fun ur_1 tr_1 H locs ht h0 hr_1 hB h1 h2 hS => ?_)
  subst hr_1
  have hP := mB.get ht hB
  refine lv_aload_n hx hb dX0_image_11 rfl (lv_at hl 0 rfl) ?_
  refine mg_ref hx hb hts in_X0 hown hE hP 0 (xl_n hA (by decide)) rfl rfl 17 rfl (by decide) (hts _ q281) (fun _ h9 => h9) dX0_image_12 ?_
  refine lv_iconst (v := 0) hx hb dX0_image_15 (by decide) ?_
  refine lv_aload_n hx hb dX0_image_16 rfl (lv_at hl 0 rfl) ?_
  refine mg_ref hx hb hts in_X0 hown hE hP 0 (xl_n hA (by decide)) rfl rfl 22 rfl (by decide) (hts _ q286) (fun _ h9 => h9) dX0_image_17 ?_
  refine lv_iconst (v := 0) hx hb dX0_image_20 (by decide) ?_
  refine lv_bipush (v := 8) hx hb dX0_image_21 (by decide) ?_
  refine mg_cpy hx hb (by rw [hml]; exact hl.1.symm) hown (hts _ q443) (hts _ q445) (hts _ q444) (hts _ q57) hE hD hP hS 22 24 (xl_n hA (by decide)) (xl_n hA (by decide)) rfl rfl 0 0 8 rfl rfl rfl (by omega) (by omega) (by decide) (by decide) (Nat.le_of_ble_eq_true rfl) (Nat.le_of_ble_eq_true rfl) dX0_image_23 (fun H locs hP hS => ?_)
  refine lv_aload_n hx hb dX0_image_26 rfl (lv_at hl 0 rfl) ?_
  refine mg_ref hx hb hts in_X0 hown hE hP 0 (xl_n hA (by decide)) rfl rfl 18 rfl (by decide) (hts _ q282) (fun _ h9 => h9) dX0_image_27 ?_
  refine lv_iconst (v := 0) hx hb dX0_image_30 (by decide) ?_
  refine lv_aload_n hx hb dX0_image_31 rfl (lv_at hl 0 rfl) ?_
  refine mg_ref hx hb hts in_X0 hown hE hP 0 (xl_n hA (by decide)) rfl rfl 22 rfl (by decide) (hts _ q286) (fun _ h9 => h9) dX0_image_32 ?_
  refine lv_bipush (v := 8) hx hb dX0_image_35 (by decide) ?_
  refine lv_bipush (v := 8) hx hb dX0_image_37 (by decide) ?_
  refine mg_cpy hx hb (by rw [hml]; exact hl.1.symm) hown (hts _ q443) (hts _ q445) (hts _ q444) (hts _ q57) hE hD hP hS 23 24 (xl_n hA (by decide)) (xl_n hA (by decide)) rfl rfl 0 8 8 rfl rfl rfl (by omega) (by omega) (by decide) (by decide) (Nat.le_of_ble_eq_true rfl) (Nat.le_of_ble_eq_true rfl) dX0_image_39 (fun H locs hP hS => ?_)
  rw [show (va_up (tkW σ 2 0) 24 (va_cpy ((tkW σ 2 0) 22) ((tkW σ 2 0) 24) 0 0 8)) 23 = (tkW σ 2 0) 23 from va_up_ne _ _ (by omega)] at hP
  rw [show (va_up (tkW σ 2 0) 24 (va_cpy ((tkW σ 2 0) 22) ((tkW σ 2 0) 24) 0 0 8)) 24 = (va_cpy ((tkW σ 2 0) 22) ((tkW σ 2 0) 24) 0 0 8) from va_up_self _ _ _] at hP
  refine lv_aload_n hx hb dX0_image_42 rfl (lv_at hl 0 rfl) ?_
  refine lv_aload_n hx hb dX0_image_43 rfl (lv_at hl 0 rfl) ?_
  refine mg_get hx hb hts in_X0 hown hE hP 0 (xl_n hA (by decide)) rfl rfl 19 rfl (by decide) (hts _ q283) (fun _ h9 => h9) dX0_image_44 ?_
  refine lv_rwi ((mv_row (by omega)).trans (mv_row (by omega))) ?_
  refine mg_put (v := (tkW σ 2 0) 0 19) (ty := .int) hx hb hts in_X0 tyX0 tyX0_ok nmX0 hown hE hD hP hS 0 (xl_n hA (by decide)) rfl rfl 23 rfl (by decide) (hts _ q287) (fun _ h9 => h9) rfl (by decide +kernel) rfl rfl dX0_image_47 (fun H locs hP hS => ?_)
  refine lv_aload_n hx hb dX0_image_50 rfl (lv_at hl 0 rfl) ?_
  refine lv_iconst (v := 1) hx hb dX0_image_51 (by decide) ?_
  refine mg_put (v := 1) (ty := .boolean) hx hb hts in_X0 tyX0 tyX0_ok nmX0 hown hE hD hP hS 0 (xl_n hA (by decide)) rfl rfl 20 rfl (by decide) (hts _ q284) (fun _ h9 => h9) rfl (by decide +kernel) rfl rfl dX0_image_52 (fun H locs hP hS => ?_)
  refine lv_iconst (v := 1) hx hb dX0_image_55 (by decide) ?_
  exact W.iret (v := 1) hx hb hr (fun t ht hW => ⟨⟨_, _, rfl, ⟨rfl, rfl⟩, mB.of ht hP⟩, hS.F ht⟩) hS.2.2 dX0_image_56
set_option maxHeartbeats 4000000 in
set_option maxRecDepth 100000 in
theorem mt_X0_restore (l : Launch) (D : va_G) (dA : Nat → ClassId) (rr : Nat → Option Nat) (xs : Nat → mSh) (ad : Nat → Nat) (N : Nat) (hA : xA ad N) (σ : mMem)  : Met l yX0_restore (ws_ yX0_restore cX0_restore 1 (some .int)) ({ frames := 3, cells := 0, slots := 0, locals := 103 }) (va_Pc [.ref (ad 0)] (mPre D dA (shX rr xs) ad N σ)) (va_Qi (fun (r : Int32) (u : mMem) => (if σ 0 20 = 0 then (r = -4 ∧ u = σ) else (r = 1 ∧ u = rstX σ))) (mB D dA (shX rr xs) ad N) (mAd ad N)) 0 0 (mAd ad N) := by
  refine Met.ofW (cc := cX0_restore) (maxL := 1) (ret := (some .int)) (by decide) rfl ?_
  intro pp ee ss mm args below meth cd s₁ B hml hv
  obtain ⟨rfl, hP, hE⟩ := hv
  have hx := B.exec
  have hb := B.bytes
  have hr := B.returns
  have hts := atoms_spec (ws := ws_ yX0_restore cX0_restore 1 (some .int)) B.pre
  have hts : ∀ w ∈ lw_all, w.before _ ss = true := fun w h => hts w (List.mem_cons_of_mem _ h)
  have hown : ss.vm.findClass RX0 = some mm.cls := findClass_of_methodNamed B.named
  have hlocks := B.notSynchronized
  have hD := hA.2.self
  have hS : va_S (mAd ad N) ss.heap ss.heap [] := va_S.rf
  have hNN := hA.1
  have hl := lv_entry ([.ref (ad 0)]) (n := 1) (Nat.le_of_ble_eq_true rfl)
  rw [lg_entry_eq]
  generalize (lg_sl ([.ref (ad 0)]) ++ List.replicate (1 - (lg_sl ([.ref (ad 0)])).length) Slot.unset).toArray = ls at hl ⊢
  have hl : lv_has ls 1 [(0, .ref (ad 0))] := hl
  refine lv_aload_n hx hb dX0_restore_0 rfl (lv_at hl 0 rfl) ?_
  refine mg_get hx hb hts in_X0 hown hE hP 0 (xl_n hA (by decide)) rfl rfl 20 rfl (by decide) (hts _ q284) (fun _ h9 => h9) dX0_restore_1 ?_
  refine lv_if_ne (tgt := 10) hx hb dX0_restore_4 (by decide) (fun c_1 => ?_) (fun c_1 => ?_)
  · skip
    refine lv_aload_n hx hb dX0_restore_10 rfl (lv_at hl 0 rfl) ?_
    refine mg_ref hx hb hts in_X0 hown hE hP 0 (xl_n hA (by decide)) rfl rfl 1 rfl (by decide) (hts _ q265) (fun _ h9 => h9) dX0_restore_11 ?_
    refine lv_aload_n hx hb dX0_restore_14 rfl (lv_at hl 0 rfl) ?_
    refine mg_ref hx hb hts in_X0 hown hE hP 0 (xl_n hA (by decide)) rfl rfl 21 rfl (by decide) (hts _ q285) (fun _ h9 => h9) dX0_restore_15 ?_
    refine va_callv (va_runV (As := [.ref (ad 3)]) (rest := []) ⟨hx, hb, hml, hown, hts⟩ (mt_X4_takeFrom_02 l D dA rr xs ad N hA σ) (cwV 1 hts (lw_V q597 q598 q599 q49 q600) rfl rfl rfl (by decide +kernel) ⟨Nat.le_of_ble_eq_true rfl, Nat.le_of_ble_eq_true rfl⟩) ⟨mPre.blind, m_recv hE hP 1 (xl_n hA (by decide)) rfl rfl, mPre.at hE hP⟩ rfl rfl hl.1 rfl (lv_room (Nat.le_of_ble_eq_true rfl)) dX0_restore_18 ⟨Nat.le_of_ble_eq_true rfl, Nat.le_of_ble_eq_true rfl⟩) hS (fun q _ h => h) (fun q h => h) (fun ur_2 tr_2 H locs ht h0 hr_2 hB h1 h2 hS => ?_)
    subst hr_2
    have hP := mB.get ht hB
    refine lv_aload_n hx hb dX0_restore_21 rfl (lv_at hl 0 rfl) ?_
    refine mg_ref hx hb hts in_X0 hown hE hP 0 (xl_n hA (by decide)) rfl rfl 22 rfl (by decide) (hts _ q286) (fun _ h9 => h9) dX0_restore_22 ?_
    refine lv_iconst (v := 0) hx hb dX0_restore_25 (by decide) ?_
    refine lv_aload_n hx hb dX0_restore_26 rfl (lv_at hl 0 rfl) ?_
    refine mg_ref hx hb hts in_X0 hown hE hP 0 (xl_n hA (by decide)) rfl rfl 17 rfl (by decide) (hts _ q281) (fun _ h9 => h9) dX0_restore_27 ?_
    refine lv_iconst (v := 0) hx hb dX0_restore_30 (by decide) ?_
    refine lv_bipush (v := 8) hx hb dX0_restore_31 (by decide) ?_
    refine mg_cpy hx hb (by rw [hml]; exact hl.1.symm) hown (hts _ q443) (hts _ q445) (hts _ q444) (hts _ q57) hE hD hP hS 24 22 (xl_n hA (by decide)) (xl_n hA (by decide)) rfl rfl 0 0 8 rfl rfl rfl (by omega) (by omega) (by decide) (by decide) (Nat.le_of_ble_eq_true rfl) (Nat.le_of_ble_eq_true rfl) dX0_restore_33 (fun H locs hP hS => ?_)
    refine lv_aload_n hx hb dX0_restore_36 rfl (lv_at hl 0 rfl) ?_
    refine mg_ref hx hb hts in_X0 hown hE hP 0 (xl_n hA (by decide)) rfl rfl 22 rfl (by decide) (hts _ q286) (fun _ h9 => h9) dX0_restore_37 ?_
    refine lv_bipush (v := 8) hx hb dX0_restore_40 (by decide) ?_
    refine lv_aload_n hx hb dX0_restore_42 rfl (lv_at hl 0 rfl) ?_
    refine mg_ref hx hb hts in_X0 hown hE hP 0 (xl_n hA (by decide)) rfl rfl 18 rfl (by decide) (hts _ q282) (fun _ h9 => h9) dX0_restore_43 ?_
    refine lv_iconst (v := 0) hx hb dX0_restore_46 (by decide) ?_
    refine lv_bipush (v := 8) hx hb dX0_restore_47 (by decide) ?_
    refine mg_cpy hx hb (by rw [hml]; exact hl.1.symm) hown (hts _ q443) (hts _ q445) (hts _ q444) (hts _ q57) hE hD hP hS 24 23 (xl_n hA (by decide)) (xl_n hA (by decide)) rfl rfl 8 0 8 rfl rfl rfl (by omega) (by omega) (by decide) (by decide) (Nat.le_of_ble_eq_true rfl) (Nat.le_of_ble_eq_true rfl) dX0_restore_49 (fun H locs hP hS => ?_)
    rw [show (va_up (tkW σ 0 2) 22 (va_cpy ((tkW σ 0 2) 24) ((tkW σ 0 2) 22) 0 0 8)) 24 = (tkW σ 0 2) 24 from va_up_ne _ _ (by omega)] at hP
    rw [show (va_up (tkW σ 0 2) 22 (va_cpy ((tkW σ 0 2) 24) ((tkW σ 0 2) 22) 0 0 8)) 23 = (tkW σ 0 2) 23 from va_up_ne _ _ (by omega)] at hP
    refine lv_aload_n hx hb dX0_restore_52 rfl (lv_at hl 0 rfl) ?_
    refine lv_aload_n hx hb dX0_restore_53 rfl (lv_at hl 0 rfl) ?_
    refine mg_get hx hb hts in_X0 hown hE hP 0 (xl_n hA (by decide)) rfl rfl 23 rfl (by decide) (hts _ q287) (fun _ h9 => h9) dX0_restore_54 ?_
    refine lv_rwi ((mv_row (by omega)).trans (mv_row (by omega))) ?_
    refine mg_put (v := (tkW σ 0 2) 0 23) (ty := .int) hx hb hts in_X0 tyX0 tyX0_ok nmX0 hown hE hD hP hS 0 (xl_n hA (by decide)) rfl rfl 19 rfl (by decide) (hts _ q283) (fun _ h9 => h9) rfl (by decide +kernel) rfl rfl dX0_restore_57 (fun H locs hP hS => ?_)
    refine lv_iconst (v := 1) hx hb dX0_restore_60 (by decide) ?_
    exact W.iret (v := 1) hx hb hr (fun t ht hW => ⟨⟨_, _, rfl, by dsimp only; rw [if_neg c_1]; exact ⟨rfl, rfl⟩, mB.of ht hP⟩, hS.F ht⟩) hS.2.2 dX0_restore_61
  · skip
    refine lv_bipush (v := (-4)) hx hb dX0_restore_7 (by decide) ?_
    exact W.iret (v := (-4)) hx hb hr (fun t ht hW => ⟨⟨_, _, rfl, by dsimp only; rw [if_pos c_1]; exact ⟨rfl, rfl⟩, mB.of ht hP⟩, hS.F ht⟩) hS.2.2 dX0_restore_9
