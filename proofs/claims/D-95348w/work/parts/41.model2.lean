theorem mrs_ne {σ : mMem} {st p n : Nat} {ld : Nat → Nat} {i j : Nat} (h : i ≠ st) : mrs σ st p n ld i j = σ i j := by
  unfold mrs
  rw [mup_ne1 h, mv_row h]
theorem mrs_st {σ : mMem} {st p n : Nat} {ld : Nat → Nat} {j : Nat} (h : j ≠ 40 * p) : mrs σ st p n ld st j = mnc (σ st) (40 * p) n j := by
  unfold mrs
  rw [mup_ne2 h, va_up_self]
def rsA (σ : mMem) (st : Nat) (nc : Nat → Nat) (ld : Nat → Nat → Nat) : Nat → mMem
  | 0 => σ
  | p + 1 => mrs (rsA σ st nc ld p) st p (nc p) (ld p)
theorem yFk_mrs {σ : mMem} {st np : Nat} {nc : Nat → Nat} {ld : Nat → Nat → Nat} (hst : st = 1 ∨ st = 2) (h : yFk σ st np nc ld) {p n : Nat} {l : Nat → Nat} (hp : p < np) : yFk (mrs σ st p n l) st np nc ld := by
  have := h.2.1
  refine h.keep (mrs_ne (by omega)) (fun q hq => ?_) (fun q hq c hc => ?_)
  · rw [mrs_st (by omega), mnc_ne (by omega)]
  · rw [mrs_st (by omega), mnc_ne (by omega)]
def mh1 (τ : mMem) (st p n : Nat) (h d : Int32) : mMem := if mxm (τ st (40 * p + 2) - h) < thk (fun k => τ st (40 * p + 8 + k)) n then mup (mup (mup τ st (40 * p) 0) st (40 * p + 5) 1) st (40 * p + 4) (if τ st (40 * p + 4) < 0 then d else τ st (40 * p + 4)) else τ
def mhF (τ : mMem) (st : Nat) (nc : Nat → Nat) (h d : Int32) : Nat → mMem
  | 0 => τ
  | p + 1 => mh1 (mhF τ st nc h d p) st p (nc p) h d
/-- a night of all -/
def slpM (σ : mMem) (st np : Nat) (nc : Nat → Nat) (ld : Nat → Nat → Nat) (dy : Nat) (y : Int32) : mMem := mhF (rsA σ st nc ld np) st nc (σ 4 (dy / 30)) y np
theorem mh1_ne {τ : mMem} {st p n : Nat} {h d : Int32} {i j : Nat} (hi : i ≠ st ∨ (j ≠ 40 * p ∧ j ≠ 40 * p + 4 ∧ j ≠ 40 * p + 5)) : mh1 τ st p n h d i j = τ i j := by
  unfold mh1
  split
  · rw [mup_at, if_neg (by omega), mup_at, if_neg (by omega), mup_at, if_neg (by omega)]
  · rfl
theorem mhF_ne {τ : mMem} {st : Nat} {nc : Nat → Nat} {h d : Int32} {i j : Nat} (p : Nat) (hi : i ≠ st ∨ (j % 40 ≠ 0 ∧ j % 40 ≠ 4 ∧ j % 40 ≠ 5)) : mhF τ st nc h d p i j = τ i j := by
  induction p with
  | zero => rfl
  | succ p ih => rw [mhF, mh1_ne (by omega), ih]
theorem rsA_ne {σ : mMem} {st : Nat} {nc : Nat → Nat} {ld : Nat → Nat → Nat} {i j : Nat} (p : Nat) (h : i ≠ st) : rsA σ st nc ld p i j = σ i j := by
  induction p with
  | zero => rfl
  | succ p ih => rw [rsA, mrs_ne h, ih]
theorem slp_ne {σ : mMem} {st np : Nat} {nc : Nat → Nat} {ld : Nat → Nat → Nat} {dy : Nat} {y : Int32} {i j : Nat} (h : i ≠ st) : slpM σ st np nc ld dy y i j = σ i j := by
  unfold slpM
  rw [mhF_ne np (Or.inl h), rsA_ne np h]
theorem yFk_rsA {σ : mMem} {st np : Nat} {nc : Nat → Nat} {ld : Nat → Nat → Nat} (hst : st = 1 ∨ st = 2) (h : yFk σ st np nc ld) {p : Nat} (hp : p ≤ np) : yFk (rsA σ st nc ld p) st np nc ld := by
  induction p with
  | zero => exact h
  | succ p ih => exact yFk_mrs hst (ih (by omega)) (by omega)
theorem yFk_slp {σ : mMem} {st np : Nat} {nc : Nat → Nat} {ld : Nat → Nat → Nat} {dy : Nat} {y : Int32} (hst : st = 1 ∨ st = 2) (h : yFk σ st np nc ld) : yFk (slpM σ st np nc ld dy y) st np nc ld := by
  unfold slpM
  refine (yFk_rsA hst h (Nat.le_refl np)).keep (mhF_ne np (by omega)) (fun p hp => mhF_ne np (by omega)) (fun p hp c hc => mhF_ne np (by omega))
def mniM (σ : mMem) (np : Nat) (nc : Nat → Nat) (ld : Nat → Nat → Nat) (dy : Nat) : Nat → mMem
  | 0 => σ
  | c + 1 => slpM (mup (mniM σ np nc ld dy c) 0 7 (nI (dy + c + 1))) 1 np nc ld (dy + c + 1) (nI (dy + c + 1))
abbrev letm (ru : Nat) (c n : Int32) : Prop := if ru = 0 then c = n - 1 else if ru = 1 then c = 0 else (0 < c ∨ n = 1)
def osh (f : Nat → Int32) (b k : Nat) : Nat → (Nat → Int32)
  | 0 => f
  | j + 1 => upd (osh f b k j) (b + 8 + (k + j)) (osh f b k j (b + 12 + (k + j)))
theorem osh_ne {f : Nat → Int32} {b k j i : Nat} (h : i < b + 8 + k ∨ b + 8 + k + j ≤ i) : osh f b k j i = f i := by
  induction j with
  | zero => rfl
  | succ j ih => rw [osh, pk_un (by omega), ih (by omega)]
/-- coat c off, of n -/
def offM (σ : mMem) (st p n c : Nat) : mMem := va_up σ st (osh (upd (σ st) (40 * p + 3) (nI (n - 1))) (40 * p) (4 * c) (4 * (n - 1 - c)))
theorem offM_3 {σ : mMem} {st p n c : Nat} (_ : c < n) : offM σ st p n c st (40 * p + 3) = nI (n - 1) := by
  unfold offM
  rw [va_up_self, osh_ne (by omega), pk_us]
theorem offM_ne {σ : mMem} {st p n c i j : Nat} (h : i ≠ st) : offM σ st p n c i j = σ i j := by
  unfold offM
  rw [mv_row h]
theorem btw_m {y c : Int32} {n : Nat} (h : y = nI n) (hn : n < 2 ^ 30) : (¬ c ≤ 0 ∧ ¬ y - 1 ≤ c) ↔ btw c n := by
  rw [i_le, i_le, nI_m1 h hn, show (0 : Int32).toInt = 0 from rfl]
  unfold btw
  omega
def gns (σ : mMem) (nc : Nat → Nat) (ld : Nat → Nat → Nat) (a b : Nat) : Int32 := σ 3 (5 * a + ld a (nc a - 1)) - σ 3 (5 * a + ld b (nc b - 1))
def svM (σ : mMem) (nc : Nat → Nat) (ld : Nat → Nat → Nat) (a b : Nat) (c : Int32) : Int32 := if c < 0 then (if gns σ nc ld b a < 1 ∨ gns σ nc ld a b < 1 then 0 else gns σ nc ld b a + gns σ nc ld a b + 0) else (if gns σ nc ld b a < 1 ∨ gns σ nc ld (tn c) b < 1 ∨ gns σ nc ld a (tn c) < 1 then 0 else gns σ nc ld b a + gns σ nc ld a (tn c) + gns σ nc ld (tn c) b)
def omI (f : Nat → Int32) (g s : Int32) : Nat → Int32
  | 0 => s
  | c + 1 => omI f g s c + (if f (4 * c) = g then f (4 * c + 1) else 0)
def omT (σ : mMem) (nc : Nat → Nat) (g : Int32) : Nat → Int32
  | 0 => 0
  | p + 1 => omI (fun k => σ 1 (40 * p + 8 + k)) g (omT σ nc g p) (nc p)
def brm (σ : mMem) (p n dy : Nat) : Nat → Nat → Int32
  | 0, _ => -4
  | fu + 1, d => if mxm (σ 1 (40 * p + 2) - σ 4 (d / 30)) < thk (fun k => σ 1 (40 * p + 8 + k)) n then nI (d - dy) else brm σ p n dy fu (d + 1)
set_option maxHeartbeats 4000000 in
set_option maxRecDepth 100000 in
theorem mt_X8_sleeps (l : Launch) (D : va_G) (dA : Nat → ClassId) (st : Nat) (hst : st = 1 ∨ st = 2) (ad : Nat → Nat) (N : Nat) (hA : yA ad N) (σ : mMem) (y : Int32) (dy : Nat) (hy0 : y = nI dy) (hdy : dy < 360) (np : Nat) (nc : Nat → Nat) (ld : Nat → Nat → Nat) (hF : yFk σ st np nc ld) : Met l yX8_sleeps (ws_ yX8_sleeps cX8_sleeps 3 none) ({ frames := 2, cells := 0, slots := 0, locals := 46 }) (va_Pc [.ref (ad 0), .int y] (mPre D dA (shM st) ad N σ)) (va_Qv (fun (u : mMem) => u = slpM σ st np nc ld dy y) (mB D dA (shM st) ad N) (mAd ad N)) 0 0 (mAd ad N) := by
  refine Met.ofW (cc := cX8_sleeps) (maxL := 3) (ret := none) (by decide) rfl ?_
  intro pp ee ss mm args below meth cd s₁ B hml hv
  obtain ⟨rfl, hP, hE⟩ := hv
  have hx := B.exec
  have hb := B.bytes
  have hr := B.returns
  have hts := atoms_spec (ws := ws_ yX8_sleeps cX8_sleeps 3 none) B.pre
  have hts : ∀ w ∈ lw_all, w.before _ ss = true := fun w h => hts w (List.mem_cons_of_mem _ h)
  have hown : ss.vm.findClass RX8 = some mm.cls := findClass_of_methodNamed B.named
  have hlocks := B.notSynchronized
  have hD := hA.2.self
  have hS : va_S (mAd ad N) ss.heap ss.heap [] := va_S.rf
  have hNN := hA.1
  have hn5 := hF.n5
  have h8 : ∀ p, p < np → nc p ≤ 8 := fun p hp => hF.m8 hp
  have hl := lv_entry ([.ref (ad 0), .int y]) (n := 3) (Nat.le_of_ble_eq_true rfl)
  rw [lg_entry_eq]
  generalize (lg_sl ([.ref (ad 0), .int y]) ++ List.replicate (3 - (lg_sl ([.ref (ad 0), .int y])).length) Slot.unset).toArray = ls at hl ⊢
  have hl : lv_has ls 3 [(0, .ref (ad 0)), (1, .int y)] := hl
  refine lv_iconst (v := 0) hx hb dX8_sleeps_0 (by decide) ?_
  refine lv_istore_n (lv' := [(2, .int 0), (0, .ref (ad 0)), (1, .int y)]) hx hb dX8_sleeps_1 rfl hl (by decide) rfl (fun ls hl => ?_)
  have lp2 : ∀ (fu : Nat) (p : Nat) (τ : mMem) (_ : p ≤ np) (_ : τ = rsA σ st nc ld p) (_ : yFk τ st np nc ld) (_ : τ 4 (dy / 30) = σ 4 (dy / 30)) (_ : np - p < fu) (H : Heap) (locs : List Loc) (_ : va_P D xCl (mW dA (shM st) ad N τ) H) (_ : va_S (mAd ad N) ss.heap H locs) (ls : Array Slot) (_ : lv_has ls 3 [(2, .int (nI p)), (0, .ref (ad 0)), (1, .int y)]), W pp l ee (headSpec (ws_ yX8_sleeps cX8_sleeps 3 none) ({ frames := 2, cells := 0, slots := 0, locals := 46 })).room ss mm ([.ref (ad 0), .int y] : List Value).toArray below meth cd H locs 0 0 (MQ below (va_Qv (fun (u : mMem) => u = slpM σ st np nc ld dy y) (mB D dA (shM st) ad N) (mAd ad N)) ([.ref (ad 0), .int y] : List Value).toArray ss 0 0 (mAd ad N)) (F0 mm 2 ls []) := by
    intro fu
    induction fu with
    | zero => intro p τ hp hτ hF1 hh1 hfu; exact absurd hfu (Nat.not_lt_zero _)
    | succ fu ih2 =>
      intro p τ hp hτ hF1 hh1 hfu H locs hP hS ls hl
      refine lv_iload_n hx hb dX8_sleeps_2 rfl (lv_at hl 0 rfl) ?_
      refine lv_aload_n hx hb dX8_sleeps_3 rfl (lv_at hl 1 rfl) ?_
      refine mg_get hx hb hts in_X8 hown hE hP 0 (yl_n hA (by decide)) rfl rfl 0 rfl (by decide) (hts _ q764) (fun _ h9 => h9) dX8_sleeps_4 ?_
      refine lv_icmp_ge (tgt := 21) hx hb dX8_sleeps_7 (by decide) (fun c_1 => ?_) (fun c_1 => ?_)
      · have nc_1 : np ≤ p := mi_le hF1.n rfl (by omega) (by omega) c_1
        refine lv_iconst (v := 0) hx hb dX8_sleeps_21 (by decide) ?_
        refine lv_istore_n (lv' := [(2, .int 0), (0, .ref (ad 0)), (1, .int y)]) hx hb dX8_sleeps_22 rfl hl (by decide) rfl (fun ls hl => ?_)
        have lp23 : ∀ (fu : Nat) (q : Nat) (τ2 : mMem) (_ : q ≤ np) (_ : τ2 = mhF (rsA σ st nc ld np) st nc (σ 4 (dy / 30)) y q) (_ : yFk τ2 st np nc ld) (_ : τ2 4 (dy / 30) = σ 4 (dy / 30)) (_ : np - q < fu) (H : Heap) (locs : List Loc) (_ : va_P D xCl (mW dA (shM st) ad N τ2) H) (_ : va_S (mAd ad N) ss.heap H locs) (ls : Array Slot) (_ : lv_has ls 3 [(2, .int (nI q)), (0, .ref (ad 0)), (1, .int y)]), W pp l ee (headSpec (ws_ yX8_sleeps cX8_sleeps 3 none) ({ frames := 2, cells := 0, slots := 0, locals := 46 })).room ss mm ([.ref (ad 0), .int y] : List Value).toArray below meth cd H locs 0 0 (MQ below (va_Qv (fun (u : mMem) => u = slpM σ st np nc ld dy y) (mB D dA (shM st) ad N) (mAd ad N)) ([.ref (ad 0), .int y] : List Value).toArray ss 0 0 (mAd ad N)) (F0 mm 23 ls []) := by
          intro fu
          induction fu with
          | zero => intro q τ2 hq hτ2 hF2 hh2 hfu; exact absurd hfu (Nat.not_lt_zero _)
          | succ fu ih23 =>
            intro q τ2 hq hτ2 hF2 hh2 hfu H locs hP hS ls hl
            refine lv_iload_n hx hb dX8_sleeps_23 rfl (lv_at hl 0 rfl) ?_
            refine lv_aload_n hx hb dX8_sleeps_24 rfl (lv_at hl 1 rfl) ?_
            refine mg_get hx hb hts in_X8 hown hE hP 0 (yl_n hA (by decide)) rfl rfl 0 rfl (by decide) (hts _ q764) (fun _ h9 => h9) dX8_sleeps_25 ?_
            refine lv_icmp_ge (tgt := 108) hx hb dX8_sleeps_28 (by decide) (fun c_2 => ?_) (fun c_2 => ?_)
            · have nc_2 : np ≤ q := mi_le hF2.n rfl (by omega) (by omega) c_2
              exact W.vret hx hb hr (fun t ht hW => ⟨⟨_, rfl, by rw [hτ2, show q = np by omega]; rfl, mB.of ht hP⟩, hS.F ht⟩) hS.2.2 dX8_sleeps_108
            · have nc_2 : q < np := mi_nle hF2.n rfl (by omega) (by omega) c_2
              have h8q := h8 q (by omega)
              refine lv_aload_n hx hb dX8_sleeps_31 rfl (lv_at hl 1 rfl) ?_
              refine lv_iload_n hx hb dX8_sleeps_32 rfl (lv_at hl 0 rfl) ?_
              refine lv_iload_n hx hb dX8_sleeps_33 rfl (lv_at hl 2 rfl) ?_
              refine vp_callSi (W.runV (As := [.int (nI q), .int y]) (rest := []) ⟨hx, hb, hml, hown, hts⟩ (mt_X8_isTooHot l D dA st hst ad N hA τ2 (nI q) q rfl (by omega) y dy hy0 (by omega) (nc q) (hF2.m (by omega)) (by omega)) (cwV 2 hts (lw_V q953 q955 qs29 q55 q956) rfl rfl rfl (by decide +kernel) ⟨Nat.le_of_ble_eq_true rfl, Nat.le_of_ble_eq_true rfl⟩) ⟨mPre.blind, m_recv hE hP 0 (yl_n hA (by decide)) rfl rfl, mPre.at hE hP⟩ rfl rfl hl.1 rfl (lv_room (Nat.le_of_ble_eq_true rfl)) dX8_sleeps_34 ⟨Nat.le_of_ble_eq_true rfl, Nat.le_of_ble_eq_true rfl⟩) (fun r_3 hr_3 => ?_)
              subst hr_3
              refine lv_if_eq (tgt := 102) hx hb dX8_sleeps_37 (by decide) (fun c_4 => ?_) (fun c_4 => ?_)
              · have c_4 : ¬ (mxm (τ2 st (40 * q + 2) - τ2 4 (dy / 30)) < thk (fun k => τ2 st (40 * q + 8 + k)) (nc q)) := bi_f c_4
                refine lv_iinc (v := (nI (q + 1))) (lv' := [(2, .int (nI (q + 1))), (0, .ref (ad 0)), (1, .int y)]) hx hb dX8_sleeps_102 hl (k := 0) rfl (mi_add rfl rfl) (by decide) rfl (fun ls hl => ?_)
                refine lv_goto (tgt := 23) hx hb dX8_sleeps_105 (by decide) ?_
                exact ih23  (q + 1) τ2 (by omega) (by rw [mhF, ← hτ2, mh1, ← hh2, if_neg c_4]) hF2 hh2 (by omega) _ _ hP hS ls (lv_sub hl [0, 1, 2] rfl)
              · have c_4 : mxm (τ2 st (40 * q + 2) - τ2 4 (dy / 30)) < thk (fun k => τ2 st (40 * q + 8 + k)) (nc q) := bi_t c_4
                refine lv_aload_n hx hb dX8_sleeps_40 rfl (lv_at hl 1 rfl) ?_
                refine mg_ref hx hb hts in_X8 hown hE hP 0 (yl_n hA (by decide)) rfl rfl 3 rfl (by decide) (hts _ q767) (fun _ h9 => h9) dX8_sleeps_41 ?_
                refine lv_bipush (v := 40) hx hb dX8_sleeps_44 (by decide) ?_
                refine lv_iload_n hx hb dX8_sleeps_46 rfl (lv_at hl 0 rfl) ?_
                refine lv_imul hx hb dX8_sleeps_47 ?_
                refine lv_iconst (v := 0) hx hb dX8_sleeps_48 (by decide) ?_
                refine mg_ist (v := 0) hx hb hE hD hP hS st (yl_st hA hst) (shM_st hst _) (40 * q) (by omega) (mi_mul rfl rfl) (by decide) dX8_sleeps_49 (fun H locs hP hS => ?_)
                refine lv_aload_n hx hb dX8_sleeps_50 rfl (lv_at hl 1 rfl) ?_
                refine mg_ref hx hb hts in_X8 hown hE hP 0 (yl_n hA (by decide)) rfl rfl 3 rfl (by decide) (hts _ q767) (fun _ h9 => h9) dX8_sleeps_51 ?_
                refine lv_bipush (v := 40) hx hb dX8_sleeps_54 (by decide) ?_
                refine lv_iload_n hx hb dX8_sleeps_56 rfl (lv_at hl 0 rfl) ?_
                refine lv_imul hx hb dX8_sleeps_57 ?_
                refine lv_iconst (v := 5) hx hb dX8_sleeps_58 (by decide) ?_
                refine lv_iadd hx hb dX8_sleeps_59 ?_
                refine lv_iconst (v := 1) hx hb dX8_sleeps_60 (by decide) ?_
                refine mg_ist (v := 1) hx hb hE hD hP hS st (yl_st hA hst) (shM_st hst _) (40 * q + 5) (by omega) (mi_add (mi_mul rfl rfl) rfl) (by decide) dX8_sleeps_61 (fun H locs hP hS => ?_)
                refine lv_aload_n hx hb dX8_sleeps_62 rfl (lv_at hl 1 rfl) ?_
                refine mg_ref hx hb hts in_X8 hown hE hP 0 (yl_n hA (by decide)) rfl rfl 3 rfl (by decide) (hts _ q767) (fun _ h9 => h9) dX8_sleeps_63 ?_
                refine lv_bipush (v := 40) hx hb dX8_sleeps_66 (by decide) ?_
                refine lv_iload_n hx hb dX8_sleeps_68 rfl (lv_at hl 0 rfl) ?_
                refine lv_imul hx hb dX8_sleeps_69 ?_
                refine lv_iconst (v := 4) hx hb dX8_sleeps_70 (by decide) ?_
                refine lv_iadd hx hb dX8_sleeps_71 ?_
                refine lv_aload_n hx hb dX8_sleeps_72 rfl (lv_at hl 1 rfl) ?_
                refine mg_ref hx hb hts in_X8 hown hE hP 0 (yl_n hA (by decide)) rfl rfl 3 rfl (by decide) (hts _ q767) (fun _ h9 => h9) dX8_sleeps_73 ?_
                refine lv_bipush (v := 40) hx hb dX8_sleeps_76 (by decide) ?_
                refine lv_iload_n hx hb dX8_sleeps_78 rfl (lv_at hl 0 rfl) ?_
                refine lv_imul hx hb dX8_sleeps_79 ?_
                refine lv_iconst (v := 4) hx hb dX8_sleeps_80 (by decide) ?_
                refine lv_iadd hx hb dX8_sleeps_81 ?_
                refine mg_ild hx hb hE hP st (yl_st hA hst) (shM_st hst _) (40 * q + 4) (by omega) (mi_add (mi_mul rfl rfl) rfl) (by decide) dX8_sleeps_82 ?_
                refine lv_rwi ((mup_ne2 (by omega)).trans (mup_ne2 (by omega))) ?_
                refine lv_if_ge (tgt := 90) hx hb dX8_sleeps_83 (by decide) (fun c_5 => ?_) (fun c_5 => ?_)
                · skip
                  refine lv_aload_n hx hb dX8_sleeps_90 rfl (lv_at hl 1 rfl) ?_
                  refine mg_ref hx hb hts in_X8 hown hE hP 0 (yl_n hA (by decide)) rfl rfl 3 rfl (by decide) (hts _ q767) (fun _ h9 => h9) dX8_sleeps_91 ?_
                  refine lv_bipush (v := 40) hx hb dX8_sleeps_94 (by decide) ?_
                  refine lv_iload_n hx hb dX8_sleeps_96 rfl (lv_at hl 0 rfl) ?_
                  refine lv_imul hx hb dX8_sleeps_97 ?_
                  refine lv_iconst (v := 4) hx hb dX8_sleeps_98 (by decide) ?_
                  refine lv_iadd hx hb dX8_sleeps_99 ?_
                  refine mg_ild hx hb hE hP st (yl_st hA hst) (shM_st hst _) (40 * q + 4) (by omega) (mi_add (mi_mul rfl rfl) rfl) (by decide) dX8_sleeps_100 ?_
                  refine lv_rwi ((mup_ne2 (by omega)).trans (mup_ne2 (by omega))) ?_
                  refine mg_ist (v := τ2 st (40 * q + 4)) hx hb hE hD hP hS st (yl_st hA hst) (shM_st hst _) (40 * q + 4) (by omega) (mi_add (mi_mul rfl rfl) rfl) (by decide) dX8_sleeps_101 (fun H locs hP hS => ?_)
                  refine lv_iinc (v := (nI (q + 1))) (lv' := [(2, .int (nI (q + 1))), (0, .ref (ad 0)), (1, .int y)]) hx hb dX8_sleeps_102 hl (k := 0) rfl (mi_add rfl rfl) (by decide) rfl (fun ls hl => ?_)
                  refine lv_goto (tgt := 23) hx hb dX8_sleeps_105 (by decide) ?_
                  exact ih23  (q + 1) (mup (mup (mup τ2 st (40 * q) 0) st (40 * q + 5) 1) st (40 * q + 4) (τ2 st (40 * q + 4))) (by omega) (by rw [mhF, ← hτ2, mh1, ← hh2, if_pos c_4, if_neg (Int32.not_lt.mpr c_5)]) (((hF2.mup (by omega) (by omega) (by omega)).mup (by omega) (by omega) (by omega)).mup (by omega) (by omega) (by omega)) ((mup_ne1 (by omega)).trans ((mup_ne1 (by omega)).trans ((mup_ne1 (by omega)).trans hh2))) (by omega) _ _ hP hS ls (lv_sub hl [0, 1, 2] rfl)
                · skip
                  refine lv_iload_n hx hb dX8_sleeps_86 rfl (lv_at hl 2 rfl) ?_
                  refine lv_goto (tgt := 101) hx hb dX8_sleeps_87 (by decide) ?_
                  refine mg_ist (v := y) hx hb hE hD hP hS st (yl_st hA hst) (shM_st hst _) (40 * q + 4) (by omega) (mi_add (mi_mul rfl rfl) rfl) (by decide) dX8_sleeps_101 (fun H locs hP hS => ?_)
                  refine lv_iinc (v := (nI (q + 1))) (lv' := [(2, .int (nI (q + 1))), (0, .ref (ad 0)), (1, .int y)]) hx hb dX8_sleeps_102 hl (k := 0) rfl (mi_add rfl rfl) (by decide) rfl (fun ls hl => ?_)
                  refine lv_goto (tgt := 23) hx hb dX8_sleeps_105 (by decide) ?_
                  exact ih23  (q + 1) (mup (mup (mup τ2 st (40 * q) 0) st (40 * q + 5) 1) st (40 * q + 4) y) (by omega) (by rw [mhF, ← hτ2, mh1, ← hh2, if_pos c_4, if_pos (Int32.not_le.mp c_5)]) (((hF2.mup (by omega) (by omega) (by omega)).mup (by omega) (by omega) (by omega)).mup (by omega) (by omega) (by omega)) ((mup_ne1 (by omega)).trans ((mup_ne1 (by omega)).trans ((mup_ne1 (by omega)).trans hh2))) (by omega) _ _ hP hS ls (lv_sub hl [0, 1, 2] rfl)
        exact lp23 (np - 0 + 1) 0 τ (by omega) (by rw [hτ, show p = np by omega]; rfl) hF1 hh1 (by omega) _ _ hP hS ls (lv_sub hl [0, 1, 2] rfl)
      · have nc_1 : p < np := mi_nle hF1.n rfl (by omega) (by omega) c_1
        have h8p := h8 p (by omega)
        refine lv_aload_n hx hb dX8_sleeps_10 rfl (lv_at hl 1 rfl) ?_
        refine lv_iload_n hx hb dX8_sleeps_11 rfl (lv_at hl 0 rfl) ?_
        refine va_callv (va_runV (As := [.int (nI p)]) (rest := []) ⟨hx, hb, hml, hown, hts⟩ (mt_X8_rests l D dA st hst ad N hA τ (nI p) p rfl (by omega) (nc p) (hF1.m (by omega)) (by omega) (ld p) (hF1.l (by omega))) (cwV 1 hts (lw_V q945 q947 qs28 q55 q948) rfl rfl rfl (by decide +kernel) ⟨Nat.le_of_ble_eq_true rfl, Nat.le_of_ble_eq_true rfl⟩) ⟨mPre.blind, m_recv hE hP 0 (yl_n hA (by decide)) rfl rfl, mPre.at hE hP⟩ rfl rfl hl.1 rfl (lv_room (Nat.le_of_ble_eq_true rfl)) dX8_sleeps_12 ⟨Nat.le_of_ble_eq_true rfl, Nat.le_of_ble_eq_true rfl⟩) hS (fun q _ h => h) (fun q h => h) (fun ur_6 tr_6 H locs ht h0 hr_6 hB h1 h2 hS => ?_)
        subst hr_6
        have hP := mB.get ht hB
        refine lv_iinc (v := (nI (p + 1))) (lv' := [(2, .int (nI (p + 1))), (0, .ref (ad 0)), (1, .int y)]) hx hb dX8_sleeps_15 hl (k := 0) rfl (mi_add rfl rfl) (by decide) rfl (fun ls hl => ?_)
        refine lv_goto (tgt := 2) hx hb dX8_sleeps_18 (by decide) ?_
        exact ih2  (p + 1) (mrs τ st p (nc p) (ld p)) (by omega) (by rw [hτ]; rfl) (yFk_mrs hst hF1 (by omega)) ((mrs_ne (by omega)).trans hh1) (by omega) _ _ hP hS ls (lv_sub hl [0, 1, 2] rfl)
  exact lp2 (np - 0 + 1) 0 σ (by omega) rfl hF rfl (by omega) _ _ hP hS ls (lv_sub hl [0, 1, 2] rfl)
set_option maxHeartbeats 4000000 in
set_option maxRecDepth 100000 in
theorem mt_X8_nights (l : Launch) (D : va_G) (dA : Nat → ClassId) (st : Nat) (hst : st = 1 ∨ st = 2) (ad : Nat → Nat) (N : Nat) (hA : yA ad N) (σ : mMem) (a : Int32) (np : Nat) (nc : Nat → Nat) (ld : Nat → Nat → Nat) (hF : yFk σ 1 np nc ld) (dy : Nat) (hdy0 : σ 0 7 = nI dy) (hdy : dy < 360) : Met l yX8_nights (ws_ yX8_nights cX8_nights 3 (some .int)) ({ frames := 3, cells := 0, slots := 0, locals := 68 }) (va_Pc [.ref (ad 0), .int a] (mPre D dA (shM st) ad N σ)) (va_Qi (fun (r : Int32) (u : mMem × Nat) => (if iv a 1 60 then (if dy + tn a ≤ 359 then (r = nI (dy + tn a) ∧ u = (mniM σ np nc ld dy (tn a), 1)) else (r = -3 ∧ u = (σ, st))) else (r = -1 ∧ u = (σ, st)))) (mBM D dA ad N) (mAd ad N)) 0 0 (mAd ad N) := by
  refine Met.ofW (cc := cX8_nights) (maxL := 3) (ret := (some .int)) (by decide) rfl ?_
  intro pp ee ss mm args below meth cd s₁ B hml hv
  obtain ⟨rfl, hP, hE⟩ := hv
  have hx := B.exec
  have hb := B.bytes
  have hr := B.returns
  have hts := atoms_spec (ws := ws_ yX8_nights cX8_nights 3 (some .int)) B.pre
  have hts : ∀ w ∈ lw_all, w.before _ ss = true := fun w h => hts w (List.mem_cons_of_mem _ h)
  have hown : ss.vm.findClass RX8 = some mm.cls := findClass_of_methodNamed B.named
  have hlocks := B.notSynchronized
  have hD := hA.2.self
  have hS : va_S (mAd ad N) ss.heap ss.heap [] := va_S.rf
  have hNN := hA.1
  have hn5 := hF.n5
  have hl := lv_entry ([.ref (ad 0), .int a]) (n := 3) (Nat.le_of_ble_eq_true rfl)
  rw [lg_entry_eq]
  generalize (lg_sl ([.ref (ad 0), .int a]) ++ List.replicate (3 - (lg_sl ([.ref (ad 0), .int a])).length) Slot.unset).toArray = ls at hl ⊢
  have hl : lv_has ls 3 [(0, .ref (ad 0)), (1, .int a)] := hl
  refine lv_iload_n hx hb dX8_nights_0 rfl (lv_at hl 1 rfl) ?_
  refine lv_i2l (v := a.toInt64) hx hb dX8_nights_1 rfl ?_
  refine lv_lconst (v := 1) hx hb dX8_nights_2 (by decide) ?_
  refine lv_ldc2 hx hb hown (hts _ q858) dX8_nights_3 ?_
  refine vp_callSi (W.runS (As := [.long a.toInt64, .long 1, .long 60]) (rest := []) ⟨hx, hb, hml, hown, hts⟩ (mt_X8_in l a.toInt64 1 60) (va_cwS 3 hts (lw_S q854 q855 q55 q856) rfl rfl rfl (by decide +kernel) ⟨Nat.le_of_ble_eq_true rfl, Nat.le_of_ble_eq_true rfl⟩) ⟨fun _ _ _ _ h => h, fun _ _ _ => ⟨rfl, trivial⟩⟩ rfl rfl hl.1 rfl (lv_room (Nat.le_of_ble_eq_true rfl)) dX8_nights_6 ⟨Nat.le_of_ble_eq_true rfl, Nat.le_of_ble_eq_true rfl⟩) (fun r_1 hr_1 => ?_)
  subst hr_1
  refine lv_rwi (bi_c (liv_of rfl rfl)) ?_
  refine lv_if_ne (tgt := 14) hx hb dX8_nights_9 (by decide) (fun c_2 => ?_) (fun c_2 => ?_)
  · have c_2 : iv a 1 60 := bi_t c_2
    have c_2_tn := iv_tn c_2 (by decide)
    refine lv_aload_n hx hb dX8_nights_14 rfl (lv_at hl 0 rfl) ?_
    refine mg_get hx hb hts in_X8 hown hE hP 0 (yl_n hA (by decide)) rfl rfl 7 rfl (by decide) (hts _ q771) (fun _ h9 => h9) dX8_nights_15 ?_
    refine lv_iload_n hx hb dX8_nights_18 rfl (lv_at hl 1 rfl) ?_
    refine lv_iadd hx hb dX8_nights_19 ?_
    refine lv_sipush (v := 359) hx hb dX8_nights_20 (by decide) ?_
    refine lv_icmp_le (tgt := 29) hx hb dX8_nights_23 (by decide) (fun c_3 => ?_) (fun c_3 => ?_)
    · have nc_3 : dy + tn a ≤ 359 := mi_le (mi_add hdy0 (iv_eq c_2 (by decide))) rfl (by omega) (by omega) c_3
      refine lv_aload_n hx hb dX8_nights_29 rfl (lv_at hl 0 rfl) ?_
      refine lv_aload_n hx hb dX8_nights_30 rfl (lv_at hl 0 rfl) ?_
      refine mg_ref hx hb hts in_X8 hown hE hP 0 (yl_n hA (by decide)) rfl rfl 1 rfl (by decide) (hts _ q765) (fun _ h9 => h9) dX8_nights_31 ?_
      refine mg_state (j := 1) hx hb hts hown hE hD hP hS hA.1 (hts _ q767) dX8_nights_34 (fun H locs hP hS => ?_)
      refine lv_iconst (v := 0) hx hb dX8_nights_37 (by decide) ?_
      refine lv_istore_n (lv' := [(2, .int 0), (0, .ref (ad 0)), (1, .int a)]) hx hb dX8_nights_38 rfl hl (by decide) rfl (fun ls hl => ?_)
      have lp39 : ∀ (fu : Nat) (c : Nat) (τ : mMem) (_ : c ≤ tn a) (_ : τ = mniM σ np nc ld dy c) (_ : yFk τ 1 np nc ld) (_ : τ 0 7 = nI (dy + c)) (_ : tn a - c < fu) (H : Heap) (locs : List Loc) (_ : va_P D xCl (mW dA (shM 1) ad N τ) H) (_ : va_S (mAd ad N) ss.heap H locs) (ls : Array Slot) (_ : lv_has ls 3 [(2, .int (nI c)), (0, .ref (ad 0)), (1, .int a)]), W pp l ee (headSpec (ws_ yX8_nights cX8_nights 3 (some .int)) ({ frames := 3, cells := 0, slots := 0, locals := 68 })).room ss mm ([.ref (ad 0), .int a] : List Value).toArray below meth cd H locs 0 0 (MQ below (va_Qi (fun (r : Int32) (u : mMem × Nat) => (if iv a 1 60 then (if dy + tn a ≤ 359 then (r = nI (dy + tn a) ∧ u = (mniM σ np nc ld dy (tn a), 1)) else (r = -3 ∧ u = (σ, st))) else (r = -1 ∧ u = (σ, st)))) (mBM D dA ad N) (mAd ad N)) ([.ref (ad 0), .int a] : List Value).toArray ss 0 0 (mAd ad N)) (F0 mm 39 ls []) := by
        intro fu
        induction fu with
        | zero => intro c τ hc hτ hF1 hd1 hfu; exact absurd hfu (Nat.not_lt_zero _)
        | succ fu ih39 =>
          intro c τ hc hτ hF1 hd1 hfu H locs hP hS ls hl
          refine lv_iload_n hx hb dX8_nights_39 rfl (lv_at hl 0 rfl) ?_
          refine lv_iload_n hx hb dX8_nights_40 rfl (lv_at hl 2 rfl) ?_
          refine lv_icmp_ge (tgt := 68) hx hb dX8_nights_41 (by decide) (fun c_4 => ?_) (fun c_4 => ?_)
          · have nc_4 : tn a ≤ c := mi_le (iv_eq c_2 (by decide)) rfl (by omega) (by omega) c_4
            refine lv_aload_n hx hb dX8_nights_68 rfl (lv_at hl 1 rfl) ?_
            refine mg_get hx hb hts in_X8 hown hE hP 0 (yl_n hA (by decide)) rfl rfl 7 rfl (by decide) (hts _ q771) (fun _ h9 => h9) dX8_nights_69 ?_
            exact W.iret (v := τ 0 7) hx hb hr (fun t ht hW => ⟨⟨_, (τ, 1), rfl, by dsimp only; rw [if_pos c_2, if_pos (by omega)]; exact ⟨by rw [hd1, show c = tn a by omega], by rw [hτ, show c = tn a by omega]⟩, mBM.of ht hP⟩, hS.F ht⟩) hS.2.2 dX8_nights_72
          · have nc_4 : c < tn a := mi_nle (iv_eq c_2 (by decide)) rfl (by omega) (by omega) c_4
            refine lv_aload_n hx hb dX8_nights_44 rfl (lv_at hl 1 rfl) ?_
            refine lv_dup hx hb dX8_nights_45 rfl ?_
            refine mg_get hx hb hts in_X8 hown hE hP 0 (yl_n hA (by decide)) rfl rfl 7 rfl (by decide) (hts _ q771) (fun _ h9 => h9) dX8_nights_46 ?_
            refine lv_iconst (v := 1) hx hb dX8_nights_49 (by decide) ?_
            refine lv_iadd hx hb dX8_nights_50 ?_
            refine lv_rwi (mi_add hd1 rfl) ?_
            refine mg_put (v := (nI (dy + c + 1))) (ty := .int) hx hb hts in_X8 tyX8 tyX8_ok nmX8 hown hE hD hP hS 0 (yl_n hA (by decide)) rfl rfl 7 rfl (by decide) (hts _ q771) (fun _ h9 => h9) rfl (by decide +kernel) rfl rfl dX8_nights_51 (fun H locs hP hS => ?_)
            refine lv_aload_n hx hb dX8_nights_54 rfl (lv_at hl 1 rfl) ?_
            refine lv_aload_n hx hb dX8_nights_55 rfl (lv_at hl 1 rfl) ?_
            refine mg_get hx hb hts in_X8 hown hE hP 0 (yl_n hA (by decide)) rfl rfl 7 rfl (by decide) (hts _ q771) (fun _ h9 => h9) dX8_nights_56 ?_
            refine lv_rwi (mup_self _ _ _ _) ?_
            refine va_callv (va_runV (As := [.int (nI (dy + c + 1))]) (rest := []) ⟨hx, hb, hml, hown, hts⟩ (mt_X8_sleeps l D dA 1 (Or.inl rfl) ad N hA (mup τ 0 7 (nI (dy + c + 1))) (nI (dy + c + 1)) (dy + c + 1) rfl (by omega) np nc ld (hF1.mup (by omega) (by omega) (by omega))) (cwV 1 hts (lw_V q941 q943 qs27 q55 q944) rfl rfl rfl (by decide +kernel) ⟨Nat.le_of_ble_eq_true rfl, Nat.le_of_ble_eq_true rfl⟩) ⟨mPre.blind, m_recv hE hP 0 (yl_n hA (by decide)) rfl rfl, mPre.at hE hP⟩ rfl rfl hl.1 rfl (lv_room (Nat.le_of_ble_eq_true rfl)) dX8_nights_59 ⟨Nat.le_of_ble_eq_true rfl, Nat.le_of_ble_eq_true rfl⟩) hS (fun q _ h => h) (fun q h => h) (fun ur_5 tr_5 H locs ht h0 hr_5 hB h1 h2 hS => ?_)
            subst hr_5
            have hP := mB.get ht hB
            refine lv_iinc (v := (nI (c + 1))) (lv' := [(2, .int (nI (c + 1))), (0, .ref (ad 0)), (1, .int a)]) hx hb dX8_nights_62 hl (k := 0) rfl (mi_add rfl rfl) (by decide) rfl (fun ls hl => ?_)
            refine lv_goto (tgt := 39) hx hb dX8_nights_65 (by decide) ?_
            exact ih39  (c + 1) (slpM (mup τ 0 7 (nI (dy + c + 1))) 1 np nc ld (dy + c + 1) (nI (dy + c + 1))) (by omega) (by rw [hτ]; rfl) (yFk_slp (Or.inl rfl) (hF1.mup (by omega) (by omega) (by omega))) ((slp_ne (by omega)).trans (mup_self _ _ _ _)) (by omega) _ _ hP hS ls (lv_sub hl [0, 1, 2] rfl)
      exact lp39 (tn a - 0 + 1) 0 σ (by omega) rfl hF hdy0 (by omega) _ _ hP hS ls (lv_sub hl [0, 1, 2] rfl)
    · have nc_3 : 359 < dy + tn a := mi_nle (mi_add hdy0 (iv_eq c_2 (by decide))) rfl (by omega) (by omega) c_3
      refine lv_bipush (v := (-3)) hx hb dX8_nights_26 (by decide) ?_
      exact W.iret (v := (-3)) hx hb hr (fun t ht hW => ⟨⟨_, (σ, st), rfl, by dsimp only; rw [if_pos c_2, if_neg (by omega)]; exact ⟨rfl, rfl⟩, mBM.of ht hP⟩, hS.F ht⟩) hS.2.2 dX8_nights_28
  · have c_2 : ¬ (iv a 1 60) := bi_f c_2
    refine lv_iconst (v := (-1)) hx hb dX8_nights_12 (by decide) ?_
    exact W.iret (v := (-1)) hx hb hr (fun t ht hW => ⟨⟨_, (σ, st), rfl, by dsimp only; rw [if_neg c_2]; exact ⟨rfl, rfl⟩, mBM.of ht hP⟩, hS.F ht⟩) hS.2.2 dX8_nights_13
set_option maxHeartbeats 4000000 in
set_option maxRecDepth 100000 in
theorem mt_X8_take (l : Launch) (D : va_G) (dA : Nat → ClassId) (st : Nat) (hst : st = 1 ∨ st = 2) (ad : Nat → Nat) (N : Nat) (hA : yA ad N) (σ : mMem) (p g a t d : Int32) (np : Nat) (nc : Nat → Nat) (ld : Nat → Nat → Nat) (hF : yFk σ 1 np nc ld) : Met l yX8_take (ws_ yX8_take cX8_take 8 (some .int)) ({ frames := 2, cells := 0, slots := 0, locals := 46 }) (va_Pc [.ref (ad 0), .int p, .int g, .int a, .int t, .int d] (mPre D dA (shM st) ad N σ)) (va_Qi (fun (r : Int32) (u : mMem) => (if ik p np then (if ik g 5 then (if iv a 1 9999 then (if ik t 21 then (if iv d 1 9 then (if nc (tn p) = 8 then (r = -3 ∧ u = σ) else (r = nI (nc (tn p) + 1) ∧ u = (mup (mup (mup (mup (mup (mup σ 1 (40 * tn p + 8 + 4 * nc (tn p)) g) 1 (40 * tn p + 8 + 4 * nc (tn p) + 1) a) 1 (40 * tn p + 8 + 4 * nc (tn p) + 2) t) 1 (40 * tn p + 8 + 4 * nc (tn p) + 3) d) 1 (40 * tn p) (mst (σ 1 (40 * tn p) + a))) 1 (40 * tn p + 3) (nI (nc (tn p) + 1))))) else (r = -1 ∧ u = σ)) else (r = -1 ∧ u = σ)) else (r = -1 ∧ u = σ)) else (r = -1 ∧ u = σ)) else (r = -1 ∧ u = σ))) (mB D dA (shM st) ad N) (mAd ad N)) 0 0 (mAd ad N) := by
  refine Met.ofW (cc := cX8_take) (maxL := 8) (ret := (some .int)) (by decide) rfl ?_
  intro pp ee ss mm args below meth cd s₁ B hml hv
  obtain ⟨rfl, hP, hE⟩ := hv
  have hx := B.exec
  have hb := B.bytes
  have hr := B.returns
  have hts := atoms_spec (ws := ws_ yX8_take cX8_take 8 (some .int)) B.pre
  have hts : ∀ w ∈ lw_all, w.before _ ss = true := fun w h => hts w (List.mem_cons_of_mem _ h)
  have hown : ss.vm.findClass RX8 = some mm.cls := findClass_of_methodNamed B.named
  have hlocks := B.notSynchronized
  have hD := hA.2.self
  have hS : va_S (mAd ad N) ss.heap ss.heap [] := va_S.rf
  have hNN := hA.1
  have hn5 := hF.n5
  have hl := lv_entry ([.ref (ad 0), .int p, .int g, .int a, .int t, .int d]) (n := 8) (Nat.le_of_ble_eq_true rfl)
  rw [lg_entry_eq]
  generalize (lg_sl ([.ref (ad 0), .int p, .int g, .int a, .int t, .int d]) ++ List.replicate (8 - (lg_sl ([.ref (ad 0), .int p, .int g, .int a, .int t, .int d])).length) Slot.unset).toArray = ls at hl ⊢
  have hl : lv_has ls 8 [(0, .ref (ad 0)), (1, .int p), (2, .int g), (3, .int a), (4, .int t), (5, .int d)] := hl
  refine lv_aload_n hx hb dX8_take_0 rfl (lv_at hl 0 rfl) ?_
  refine lv_iload_n hx hb dX8_take_1 rfl (lv_at hl 1 rfl) ?_
  refine vp_callSi (W.runV (As := [.int p]) (rest := []) ⟨hx, hb, hml, hown, hts⟩ (mt_X8_isOne l D dA st hst ad N hA σ p np hF.n hF.n5) (cwV 1 hts (lw_V q863 q865 qs20 q55 q866) rfl rfl rfl (by decide +kernel) ⟨Nat.le_of_ble_eq_true rfl, Nat.le_of_ble_eq_true rfl⟩) ⟨mPre.blind, m_recv hE hP 0 (yl_n hA (by decide)) rfl rfl, mPre.at hE hP⟩ rfl rfl hl.1 rfl (lv_room (Nat.le_of_ble_eq_true rfl)) dX8_take_2 ⟨Nat.le_of_ble_eq_true rfl, Nat.le_of_ble_eq_true rfl⟩) (fun r_1 hr_1 => ?_)
  subst hr_1
  refine lv_if_eq (tgt := 53) hx hb dX8_take_5 (by decide) (fun c_2 => ?_) (fun c_2 => ?_)
  · have c_2 : ¬ (ik p np) := bi_f c_2
    refine lv_iconst (v := (-1)) hx hb dX8_take_53 (by decide) ?_
    exact W.iret (v := (-1)) hx hb hr (fun t ht hW => ⟨⟨_, _, rfl, by dsimp only; rw [if_neg c_2]; exact ⟨rfl, rfl⟩, mB.of ht hP⟩, hS.F ht⟩) hS.2.2 dX8_take_54
  · have c_2 : ik p np := bi_t c_2
    have c_2_lt := ik_lt c_2
    have c_2_m := hF.m c_2_lt
    have c_2_8 := hF.m8 c_2_lt
    refine lv_iload_n hx hb dX8_take_8 rfl (lv_at hl 2 rfl) ?_
    refine vp_callSi (W.runS (As := [.int g]) (rest := []) ⟨hx, hb, hml, hown, hts⟩ (mt_X8_isLender l g) (va_cwS 1 hts (lw_S q886 q887 q55 q888) rfl rfl rfl (by decide +kernel) ⟨Nat.le_of_ble_eq_true rfl, Nat.le_of_ble_eq_true rfl⟩) ⟨fun _ _ _ _ h => h, fun _ _ _ => ⟨rfl, trivial⟩⟩ rfl rfl hl.1 rfl (lv_room (Nat.le_of_ble_eq_true rfl)) dX8_take_9 ⟨Nat.le_of_ble_eq_true rfl, Nat.le_of_ble_eq_true rfl⟩) (fun r_3 hr_3 => ?_)
    subst hr_3
    refine lv_if_eq (tgt := 53) hx hb dX8_take_12 (by decide) (fun c_4 => ?_) (fun c_4 => ?_)
    · have c_4 : ¬ (ik g 5) := bi_f c_4
      refine lv_iconst (v := (-1)) hx hb dX8_take_53 (by decide) ?_
      exact W.iret (v := (-1)) hx hb hr (fun t ht hW => ⟨⟨_, _, rfl, by dsimp only; rw [if_pos c_2, if_neg c_4]; exact ⟨rfl, rfl⟩, mB.of ht hP⟩, hS.F ht⟩) hS.2.2 dX8_take_54
    · have c_4 : ik g 5 := bi_t c_4
      have c_4_lt := ik_lt c_4
      refine lv_iload_n hx hb dX8_take_15 rfl (lv_at hl 3 rfl) ?_
      refine lv_i2l (v := a.toInt64) hx hb dX8_take_16 rfl ?_
      refine lv_lconst (v := 1) hx hb dX8_take_17 (by decide) ?_
      refine lv_ldc2 hx hb hown (hts _ q853) dX8_take_18 ?_
      refine vp_callSi (W.runS (As := [.long a.toInt64, .long 1, .long 9999]) (rest := []) ⟨hx, hb, hml, hown, hts⟩ (mt_X8_in l a.toInt64 1 9999) (va_cwS 3 hts (lw_S q854 q855 q55 q856) rfl rfl rfl (by decide +kernel) ⟨Nat.le_of_ble_eq_true rfl, Nat.le_of_ble_eq_true rfl⟩) ⟨fun _ _ _ _ h => h, fun _ _ _ => ⟨rfl, trivial⟩⟩ rfl rfl hl.1 rfl (lv_room (Nat.le_of_ble_eq_true rfl)) dX8_take_21 ⟨Nat.le_of_ble_eq_true rfl, Nat.le_of_ble_eq_true rfl⟩) (fun r_5 hr_5 => ?_)
      subst hr_5
      refine lv_rwi (bi_c (liv_of rfl rfl)) ?_
      refine lv_if_eq (tgt := 53) hx hb dX8_take_24 (by decide) (fun c_6 => ?_) (fun c_6 => ?_)
      · have c_6 : ¬ (iv a 1 9999) := bi_f c_6
        refine lv_iconst (v := (-1)) hx hb dX8_take_53 (by decide) ?_
        exact W.iret (v := (-1)) hx hb hr (fun t ht hW => ⟨⟨_, _, rfl, by dsimp only; rw [if_pos c_2, if_pos c_4, if_neg c_6]; exact ⟨rfl, rfl⟩, mB.of ht hP⟩, hS.F ht⟩) hS.2.2 dX8_take_54
      · have c_6 : iv a 1 9999 := bi_t c_6
        have c_6_tn := iv_tn c_6 (by decide)
        refine lv_iload hx hb dX8_take_27 (lv_at hl 4 rfl) ?_
        refine lv_i2l (v := t.toInt64) hx hb dX8_take_29 rfl ?_
        refine lv_lconst (v := 0) hx hb dX8_take_30 (by decide) ?_
        refine lv_ldc2 hx hb hown (hts _ q961) dX8_take_31 ?_
        refine vp_callSi (W.runS (As := [.long t.toInt64, .long 0, .long 20]) (rest := []) ⟨hx, hb, hml, hown, hts⟩ (mt_X8_in l t.toInt64 0 20) (va_cwS 3 hts (lw_S q854 q855 q55 q856) rfl rfl rfl (by decide +kernel) ⟨Nat.le_of_ble_eq_true rfl, Nat.le_of_ble_eq_true rfl⟩) ⟨fun _ _ _ _ h => h, fun _ _ _ => ⟨rfl, trivial⟩⟩ rfl rfl hl.1 rfl (lv_room (Nat.le_of_ble_eq_true rfl)) dX8_take_34 ⟨Nat.le_of_ble_eq_true rfl, Nat.le_of_ble_eq_true rfl⟩) (fun r_7 hr_7 => ?_)
        subst hr_7
        refine lv_rwi (bi_c (lik_of (n := 21) rfl rfl)) ?_
        refine lv_if_eq (tgt := 53) hx hb dX8_take_37 (by decide) (fun c_8 => ?_) (fun c_8 => ?_)
        · have c_8 : ¬ (ik t 21) := bi_f c_8
          refine lv_iconst (v := (-1)) hx hb dX8_take_53 (by decide) ?_
          exact W.iret (v := (-1)) hx hb hr (fun t ht hW => ⟨⟨_, _, rfl, by dsimp only; rw [if_pos c_2, if_pos c_4, if_pos c_6, if_neg c_8]; exact ⟨rfl, rfl⟩, mB.of ht hP⟩, hS.F ht⟩) hS.2.2 dX8_take_54
        · have c_8 : ik t 21 := bi_t c_8
          have c_8_lt := ik_lt c_8
          refine lv_iload hx hb dX8_take_40 (lv_at hl 5 rfl) ?_
          refine lv_i2l (v := d.toInt64) hx hb dX8_take_42 rfl ?_
          refine lv_lconst (v := 1) hx hb dX8_take_43 (by decide) ?_
          refine lv_ldc2 hx hb hown (hts _ q890) dX8_take_44 ?_
          refine vp_callSi (W.runS (As := [.long d.toInt64, .long 1, .long 9]) (rest := []) ⟨hx, hb, hml, hown, hts⟩ (mt_X8_in l d.toInt64 1 9) (va_cwS 3 hts (lw_S q854 q855 q55 q856) rfl rfl rfl (by decide +kernel) ⟨Nat.le_of_ble_eq_true rfl, Nat.le_of_ble_eq_true rfl⟩) ⟨fun _ _ _ _ h => h, fun _ _ _ => ⟨rfl, trivial⟩⟩ rfl rfl hl.1 rfl (lv_room (Nat.le_of_ble_eq_true rfl)) dX8_take_47 ⟨Nat.le_of_ble_eq_true rfl, Nat.le_of_ble_eq_true rfl⟩) (fun r_9 hr_9 => ?_)
          subst hr_9
          refine lv_rwi (bi_c (liv_of rfl rfl)) ?_
          refine lv_if_ne (tgt := 55) hx hb dX8_take_50 (by decide) (fun c_10 => ?_) (fun c_10 => ?_)
          · have c_10 : iv d 1 9 := bi_t c_10
            have c_10_tn := iv_tn c_10 (by decide)
            refine lv_bipush (v := 40) hx hb dX8_take_55 (by decide) ?_
            refine lv_iload_n hx hb dX8_take_57 rfl (lv_at hl 1 rfl) ?_
            refine lv_imul hx hb dX8_take_58 ?_
            refine lv_rwi (mi_mul rfl (ik_eq c_2)) ?_
            refine lv_istore (lv' := [(6, .int (nI (40 * (tn p)))), (0, .ref (ad 0)), (1, .int p), (2, .int g), (3, .int a), (4, .int t), (5, .int d)]) hx hb dX8_take_59 hl (by decide) rfl (fun ls hl => ?_)
            refine lv_aload_n hx hb dX8_take_61 rfl (lv_at hl 1 rfl) ?_
            refine mg_ref hx hb hts in_X8 hown hE hP 0 (yl_n hA (by decide)) rfl rfl 1 rfl (by decide) (hts _ q765) (fun _ h9 => h9) dX8_take_62 ?_
            refine lv_iload hx hb dX8_take_65 (lv_at hl 0 rfl) ?_
            refine lv_iconst (v := 3) hx hb dX8_take_67 (by decide) ?_
            refine lv_iadd hx hb dX8_take_68 ?_
            refine mg_ild hx hb hE hP 1 (yl_n hA (by decide)) rfl (40 * (tn p) + 3) (by omega) (mi_add rfl rfl) (by decide) dX8_take_69 ?_
            refine lv_rwi (c_2_m) ?_
            refine lv_istore (lv' := [(7, .int (nI (nc (tn p)))), (6, .int (nI (40 * (tn p)))), (0, .ref (ad 0)), (1, .int p), (2, .int g), (3, .int a), (4, .int t), (5, .int d)]) hx hb dX8_take_70 hl (by decide) rfl (fun ls hl => ?_)
            refine lv_iload hx hb dX8_take_72 (lv_at hl 0 rfl) ?_
            refine lv_bipush (v := 8) hx hb dX8_take_74 (by decide) ?_
            refine lv_icmp_ne (tgt := 82) hx hb dX8_take_76 (by decide) (fun c_11 => ?_) (fun c_11 => ?_)
            · have nc_11 : nc (tn p) ≠ 8 := mi_ne rfl rfl (by omega) (by omega) c_11
              refine lv_aload_n hx hb dX8_take_82 rfl (lv_at hl 2 rfl) ?_
              refine mg_ref hx hb hts in_X8 hown hE hP 0 (yl_n hA (by decide)) rfl rfl 1 rfl (by decide) (hts _ q765) (fun _ h9 => h9) dX8_take_83 ?_
              refine lv_iload hx hb dX8_take_86 (lv_at hl 1 rfl) ?_
              refine lv_bipush (v := 8) hx hb dX8_take_88 (by decide) ?_
              refine lv_iadd hx hb dX8_take_90 ?_
              refine lv_iconst (v := 4) hx hb dX8_take_91 (by decide) ?_
              refine lv_iload hx hb dX8_take_92 (lv_at hl 0 rfl) ?_
              refine lv_imul hx hb dX8_take_94 ?_
              refine lv_iadd hx hb dX8_take_95 ?_
              refine lv_iload_n hx hb dX8_take_96 rfl (lv_at hl 4 rfl) ?_
              refine mg_ist (v := g) hx hb hE hD hP hS 1 (yl_n hA (by decide)) rfl (40 * (tn p) + 8 + 4 * (nc (tn p))) (by omega) (mi_add (mi_add rfl rfl) (mi_mul rfl rfl)) (by decide) dX8_take_97 (fun H locs hP hS => ?_)
              refine lv_aload_n hx hb dX8_take_98 rfl (lv_at hl 2 rfl) ?_
              refine mg_ref hx hb hts in_X8 hown hE hP 0 (yl_n hA (by decide)) rfl rfl 1 rfl (by decide) (hts _ q765) (fun _ h9 => h9) dX8_take_99 ?_
              refine lv_iload hx hb dX8_take_102 (lv_at hl 1 rfl) ?_
              refine lv_bipush (v := 8) hx hb dX8_take_104 (by decide) ?_
              refine lv_iadd hx hb dX8_take_106 ?_
              refine lv_iconst (v := 4) hx hb dX8_take_107 (by decide) ?_
              refine lv_iload hx hb dX8_take_108 (lv_at hl 0 rfl) ?_
              refine lv_imul hx hb dX8_take_110 ?_
              refine lv_iadd hx hb dX8_take_111 ?_
              refine lv_iconst (v := 1) hx hb dX8_take_112 (by decide) ?_
              refine lv_iadd hx hb dX8_take_113 ?_
              refine lv_iload_n hx hb dX8_take_114 rfl (lv_at hl 5 rfl) ?_
              refine mg_ist (v := a) hx hb hE hD hP hS 1 (yl_n hA (by decide)) rfl (40 * (tn p) + 8 + 4 * (nc (tn p)) + 1) (by omega) (mi_add (mi_add (mi_add rfl rfl) (mi_mul rfl rfl)) rfl) (by decide) dX8_take_115 (fun H locs hP hS => ?_)
              refine lv_aload_n hx hb dX8_take_116 rfl (lv_at hl 2 rfl) ?_
              refine mg_ref hx hb hts in_X8 hown hE hP 0 (yl_n hA (by decide)) rfl rfl 1 rfl (by decide) (hts _ q765) (fun _ h9 => h9) dX8_take_117 ?_
              refine lv_iload hx hb dX8_take_120 (lv_at hl 1 rfl) ?_
              refine lv_bipush (v := 8) hx hb dX8_take_122 (by decide) ?_
              refine lv_iadd hx hb dX8_take_124 ?_
              refine lv_iconst (v := 4) hx hb dX8_take_125 (by decide) ?_
              refine lv_iload hx hb dX8_take_126 (lv_at hl 0 rfl) ?_
              refine lv_imul hx hb dX8_take_128 ?_
              refine lv_iadd hx hb dX8_take_129 ?_
              refine lv_iconst (v := 2) hx hb dX8_take_130 (by decide) ?_
              refine lv_iadd hx hb dX8_take_131 ?_
              refine lv_iload hx hb dX8_take_132 (lv_at hl 6 rfl) ?_
              refine mg_ist (v := t) hx hb hE hD hP hS 1 (yl_n hA (by decide)) rfl (40 * (tn p) + 8 + 4 * (nc (tn p)) + 2) (by omega) (mi_add (mi_add (mi_add rfl rfl) (mi_mul rfl rfl)) rfl) (by decide) dX8_take_134 (fun H locs hP hS => ?_)
              refine lv_aload_n hx hb dX8_take_135 rfl (lv_at hl 2 rfl) ?_
              refine mg_ref hx hb hts in_X8 hown hE hP 0 (yl_n hA (by decide)) rfl rfl 1 rfl (by decide) (hts _ q765) (fun _ h9 => h9) dX8_take_136 ?_
              refine lv_iload hx hb dX8_take_139 (lv_at hl 1 rfl) ?_
              refine lv_bipush (v := 8) hx hb dX8_take_141 (by decide) ?_
              refine lv_iadd hx hb dX8_take_143 ?_
              refine lv_iconst (v := 4) hx hb dX8_take_144 (by decide) ?_
              refine lv_iload hx hb dX8_take_145 (lv_at hl 0 rfl) ?_
              refine lv_imul hx hb dX8_take_147 ?_
              refine lv_iadd hx hb dX8_take_148 ?_
              refine lv_iconst (v := 3) hx hb dX8_take_149 (by decide) ?_
              refine lv_iadd hx hb dX8_take_150 ?_
              refine lv_iload hx hb dX8_take_151 (lv_at hl 7 rfl) ?_
              refine mg_ist (v := d) hx hb hE hD hP hS 1 (yl_n hA (by decide)) rfl (40 * (tn p) + 8 + 4 * (nc (tn p)) + 3) (by omega) (mi_add (mi_add (mi_add rfl rfl) (mi_mul rfl rfl)) rfl) (by decide) dX8_take_153 (fun H locs hP hS => ?_)
              refine lv_aload_n hx hb dX8_take_154 rfl (lv_at hl 2 rfl) ?_
              refine mg_ref hx hb hts in_X8 hown hE hP 0 (yl_n hA (by decide)) rfl rfl 1 rfl (by decide) (hts _ q765) (fun _ h9 => h9) dX8_take_155 ?_
              refine lv_iload hx hb dX8_take_158 (lv_at hl 1 rfl) ?_
              refine lv_aload_n hx hb dX8_take_160 rfl (lv_at hl 2 rfl) ?_
              refine mg_ref hx hb hts in_X8 hown hE hP 0 (yl_n hA (by decide)) rfl rfl 1 rfl (by decide) (hts _ q765) (fun _ h9 => h9) dX8_take_161 ?_
              refine lv_iload hx hb dX8_take_164 (lv_at hl 1 rfl) ?_
              refine mg_ild hx hb hE hP 1 (yl_n hA (by decide)) rfl (40 * (tn p)) (by omega) rfl (by decide) dX8_take_166 ?_
              refine lv_rwi ((mup_ne2 (by omega)).trans ((mup_ne2 (by omega)).trans ((mup_ne2 (by omega)).trans (mup_ne2 (by omega))))) ?_
              refine lv_iload_n hx hb dX8_take_167 rfl (lv_at hl 5 rfl) ?_
              refine lv_iadd hx hb dX8_take_168 ?_
              refine vp_callSi (W.runS (As := [.int (σ 1 (40 * (tn p)) + a)]) (rest := [.int (nI (40 * (tn p))), .ref (ad 1)]) ⟨hx, hb, hml, hown, hts⟩ (mt_X8_most l (σ 1 (40 * (tn p)) + a)) (va_cwS 1 hts (lw_S q949 q950 q55 q951) rfl rfl rfl (by decide +kernel) ⟨Nat.le_of_ble_eq_true rfl, Nat.le_of_ble_eq_true rfl⟩) ⟨fun _ _ _ _ h => h, fun _ _ _ => ⟨rfl, trivial⟩⟩ rfl rfl hl.1 rfl (lv_room (Nat.le_of_ble_eq_true rfl)) dX8_take_169 ⟨Nat.le_of_ble_eq_true rfl, Nat.le_of_ble_eq_true rfl⟩) (fun r_12 hr_12 => ?_)
              subst hr_12
              refine mg_ist (v := (mst (σ 1 (40 * (tn p)) + a))) hx hb hE hD hP hS 1 (yl_n hA (by decide)) rfl (40 * (tn p)) (by omega) rfl (by decide) dX8_take_172 (fun H locs hP hS => ?_)
              refine lv_aload_n hx hb dX8_take_173 rfl (lv_at hl 2 rfl) ?_
              refine mg_ref hx hb hts in_X8 hown hE hP 0 (yl_n hA (by decide)) rfl rfl 1 rfl (by decide) (hts _ q765) (fun _ h9 => h9) dX8_take_174 ?_
              refine lv_iload hx hb dX8_take_177 (lv_at hl 1 rfl) ?_
              refine lv_iconst (v := 3) hx hb dX8_take_179 (by decide) ?_
              refine lv_iadd hx hb dX8_take_180 ?_
              refine lv_dup2_11 hx hb dX8_take_181 rfl rfl ?_
              refine mg_ild hx hb hE hP 1 (yl_n hA (by decide)) rfl (40 * (tn p) + 3) (by omega) (mi_add rfl rfl) (by decide) dX8_take_182 ?_
              refine lv_rwi ((mup_ne2 (by omega)).trans ((mup_ne2 (by omega)).trans ((mup_ne2 (by omega)).trans ((mup_ne2 (by omega)).trans (mup_ne2 (by omega)))))) ?_
              refine lv_iconst (v := 1) hx hb dX8_take_183 (by decide) ?_
              refine lv_iadd hx hb dX8_take_184 ?_
              refine lv_rwi (mi_add c_2_m rfl) ?_
              refine mg_ist (v := (nI (nc (tn p) + 1))) hx hb hE hD hP hS 1 (yl_n hA (by decide)) rfl (40 * (tn p) + 3) (by omega) (mi_add rfl rfl) (by decide) dX8_take_185 (fun H locs hP hS => ?_)
              refine lv_iload hx hb dX8_take_186 (lv_at hl 0 rfl) ?_
              refine lv_iconst (v := 1) hx hb dX8_take_188 (by decide) ?_
              refine lv_iadd hx hb dX8_take_189 ?_
              exact W.iret (v := ((nI (nc (tn p))) + 1)) hx hb hr (fun t ht hW => ⟨⟨_, _, rfl, by dsimp only; rw [if_pos c_2, if_pos c_4, if_pos c_6, if_pos c_8, if_pos c_10, if_neg nc_11]; exact ⟨nI_1 _, rfl⟩, mB.of ht hP⟩, hS.F ht⟩) hS.2.2 dX8_take_190
            · have nc_11 : nc (tn p) = 8 := mi_eq rfl rfl (by omega) (by omega) c_11
              refine lv_bipush (v := (-3)) hx hb dX8_take_79 (by decide) ?_
              exact W.iret (v := (-3)) hx hb hr (fun t ht hW => ⟨⟨_, _, rfl, by dsimp only; rw [if_pos c_2, if_pos c_4, if_pos c_6, if_pos c_8, if_pos c_10, if_pos nc_11]; exact ⟨rfl, rfl⟩, mB.of ht hP⟩, hS.F ht⟩) hS.2.2 dX8_take_81
          · have c_10 : ¬ (iv d 1 9) := bi_f c_10
            refine lv_iconst (v := (-1)) hx hb dX8_take_53 (by decide) ?_
            exact W.iret (v := (-1)) hx hb hr (fun t ht hW => ⟨⟨_, _, rfl, by dsimp only; rw [if_pos c_2, if_pos c_4, if_pos c_6, if_pos c_8, if_neg c_10]; exact ⟨rfl, rfl⟩, mB.of ht hP⟩, hS.F ht⟩) hS.2.2 dX8_take_54
set_option maxHeartbeats 4000000 in
set_option maxRecDepth 100000 in
theorem mt_X8_mayOff (l : Launch) (D : va_G) (dA : Nat → ClassId) (st : Nat) (hst : st = 1 ∨ st = 2) (ad : Nat → Nat) (N : Nat) (hA : yA ad N) (σ : mMem) (c n : Int32) (ru : Nat) (hru : σ 5 0 = nI ru) (hru3 : ru < 3) : Met l yX8_mayOff (ws_ yX8_mayOff cX8_mayOff 3 (some .boolean)) ({ frames := 0, cells := 0, slots := 0, locals := 0 }) (va_Pc [.ref (ad 0), .int c, .int n] (mPre D dA (shM st) ad N σ)) (vp_Si (fun r : Int32 => r = bi (letm ru c n))) 0 0 (fun _ => False) := by
  refine Met.ofW (cc := cX8_mayOff) (maxL := 3) (ret := (some .boolean)) (by decide) rfl ?_
  intro pp ee ss mm args below meth cd s₁ B hml hv
  obtain ⟨rfl, hP, hE⟩ := hv
  have hx := B.exec
  have hb := B.bytes
  have hr := B.returns
  have hts := atoms_spec (ws := ws_ yX8_mayOff cX8_mayOff 3 (some .boolean)) B.pre
  have hts : ∀ w ∈ lw_all, w.before _ ss = true := fun w h => hts w (List.mem_cons_of_mem _ h)
  have hown : ss.vm.findClass RX8 = some mm.cls := findClass_of_methodNamed B.named
  have hlocks := B.notSynchronized
  have hNN := hA.1
  have hl := lv_entry ([.ref (ad 0), .int c, .int n]) (n := 3) (Nat.le_of_ble_eq_true rfl)
  rw [lg_entry_eq]
  generalize (lg_sl ([.ref (ad 0), .int c, .int n]) ++ List.replicate (3 - (lg_sl ([.ref (ad 0), .int c, .int n])).length) Slot.unset).toArray = ls at hl ⊢
  have hl : lv_has ls 3 [(0, .ref (ad 0)), (1, .int c), (2, .int n)] := hl
  refine lv_aload_n hx hb dX8_mayOff_0 rfl (lv_at hl 0 rfl) ?_
  refine mg_ref hx hb hts in_X8 hown hE hP 0 (yl_n hA (by decide)) rfl rfl 6 rfl (by decide) (hts _ q770) (fun _ h9 => h9) dX8_mayOff_1 ?_
  refine lv_iconst (v := 0) hx hb dX8_mayOff_4 (by decide) ?_
  refine mg_ild hx hb hE hP 5 (yl_n hA (by decide)) rfl 0 (by omega) rfl (by decide) dX8_mayOff_5 ?_
  refine lv_if_ne (tgt := 24) hx hb dX8_mayOff_6 (by decide) (fun c_1 => ?_) (fun c_1 => ?_)
  · have nc_1 : ru ≠ 0 := mi_ne hru rfl (by omega) (by omega) c_1
    refine lv_aload_n hx hb dX8_mayOff_24 rfl (lv_at hl 0 rfl) ?_
    refine mg_ref hx hb hts in_X8 hown hE hP 0 (yl_n hA (by decide)) rfl rfl 6 rfl (by decide) (hts _ q770) (fun _ h9 => h9) dX8_mayOff_25 ?_
    refine lv_iconst (v := 0) hx hb dX8_mayOff_28 (by decide) ?_
    refine mg_ild hx hb hE hP 5 (yl_n hA (by decide)) rfl 0 (by omega) rfl (by decide) dX8_mayOff_29 ?_
    refine lv_iconst (v := 1) hx hb dX8_mayOff_30 (by decide) ?_
    refine lv_icmp_ne (tgt := 46) hx hb dX8_mayOff_31 (by decide) (fun c_2 => ?_) (fun c_2 => ?_)
    · have nc_2 : ru ≠ 1 := mi_ne hru rfl (by omega) (by omega) c_2
      refine lv_iload_n hx hb dX8_mayOff_46 rfl (lv_at hl 1 rfl) ?_
      refine lv_if_gt (tgt := 55) hx hb dX8_mayOff_47 (by decide) (fun c_3 => ?_) (fun c_3 => ?_)
      · skip
        refine lv_iconst (v := 1) hx hb dX8_mayOff_55 (by decide) ?_
        refine lv_goto (tgt := 60) hx hb dX8_mayOff_56 (by decide) ?_
        exact W.zret (v := 1) hx hb hr rfl (fun t ht hW => ⟨_, rfl, bi_1 (by unfold letm; rw [if_neg nc_1, if_neg nc_2]; exact Or.inl c_3), ht⟩) (fun q hq => by cases hq) dX8_mayOff_60
      · skip
        refine lv_iload_n hx hb dX8_mayOff_50 rfl (lv_at hl 2 rfl) ?_
        refine lv_iconst (v := 1) hx hb dX8_mayOff_51 (by decide) ?_
        refine lv_icmp_ne (tgt := 59) hx hb dX8_mayOff_52 (by decide) (fun c_4 => ?_) (fun c_4 => ?_)
        · skip
          refine lv_iconst (v := 0) hx hb dX8_mayOff_59 (by decide) ?_
          exact W.zret (v := 0) hx hb hr rfl (fun t ht hW => ⟨_, rfl, bi_0 (by unfold letm; rw [if_neg nc_1, if_neg nc_2]; exact fun q => q.elim c_3 c_4), ht⟩) (fun q hq => by cases hq) dX8_mayOff_60
        · skip
          refine lv_iconst (v := 1) hx hb dX8_mayOff_55 (by decide) ?_
          refine lv_goto (tgt := 60) hx hb dX8_mayOff_56 (by decide) ?_
          exact W.zret (v := 1) hx hb hr rfl (fun t ht hW => ⟨_, rfl, bi_1 (by unfold letm; rw [if_neg nc_1, if_neg nc_2]; exact Or.inr c_4), ht⟩) (fun q hq => by cases hq) dX8_mayOff_60
    · have nc_2 : ru = 1 := mi_eq hru rfl (by omega) (by omega) c_2
      refine lv_iload_n hx hb dX8_mayOff_34 rfl (lv_at hl 1 rfl) ?_
      refine lv_if_ne (tgt := 42) hx hb dX8_mayOff_35 (by decide) (fun c_5 => ?_) (fun c_5 => ?_)
      · skip
        refine lv_iconst (v := 0) hx hb dX8_mayOff_42 (by decide) ?_
        refine lv_goto (tgt := 60) hx hb dX8_mayOff_43 (by decide) ?_
        exact W.zret (v := 0) hx hb hr rfl (fun t ht hW => ⟨_, rfl, bi_0 (by unfold letm; rw [if_neg nc_1, if_pos nc_2]; exact c_5), ht⟩) (fun q hq => by cases hq) dX8_mayOff_60
      · skip
        refine lv_iconst (v := 1) hx hb dX8_mayOff_38 (by decide) ?_
        refine lv_goto (tgt := 60) hx hb dX8_mayOff_39 (by decide) ?_
        exact W.zret (v := 1) hx hb hr rfl (fun t ht hW => ⟨_, rfl, bi_1 (by unfold letm; rw [if_neg nc_1, if_pos nc_2]; exact c_5), ht⟩) (fun q hq => by cases hq) dX8_mayOff_60
  · have nc_1 : ru = 0 := mi_eq hru rfl (by omega) (by omega) c_1
    refine lv_iload_n hx hb dX8_mayOff_9 rfl (lv_at hl 1 rfl) ?_
    refine lv_iload_n hx hb dX8_mayOff_10 rfl (lv_at hl 2 rfl) ?_
    refine lv_iconst (v := 1) hx hb dX8_mayOff_11 (by decide) ?_
    refine lv_isub hx hb dX8_mayOff_12 ?_
    refine lv_icmp_ne (tgt := 20) hx hb dX8_mayOff_13 (by decide) (fun c_6 => ?_) (fun c_6 => ?_)
    · skip
      refine lv_iconst (v := 0) hx hb dX8_mayOff_20 (by decide) ?_
      refine lv_goto (tgt := 60) hx hb dX8_mayOff_21 (by decide) ?_
      exact W.zret (v := 0) hx hb hr rfl (fun t ht hW => ⟨_, rfl, bi_0 (by unfold letm; rw [if_pos nc_1]; exact c_6), ht⟩) (fun q hq => by cases hq) dX8_mayOff_60
    · skip
      refine lv_iconst (v := 1) hx hb dX8_mayOff_16 (by decide) ?_
      refine lv_goto (tgt := 60) hx hb dX8_mayOff_17 (by decide) ?_
      exact W.zret (v := 1) hx hb hr rfl (fun t ht hW => ⟨_, rfl, bi_1 (by unfold letm; rw [if_pos nc_1]; exact c_6), ht⟩) (fun q hq => by cases hq) dX8_mayOff_60
set_option maxHeartbeats 4000000 in
set_option maxRecDepth 100000 in
theorem mt_X8_off (l : Launch) (D : va_G) (dA : Nat → ClassId) (st : Nat) (hst : st = 1 ∨ st = 2) (ad : Nat → Nat) (N : Nat) (hA : yA ad N) (σ : mMem) (x : Int32) (p : Nat) (hx0 : x = nI p) (hp5 : p < 5) (z : Int32) (c : Nat) (hz0 : z = nI c) (n : Nat) (hn : σ st (40 * p + 3) = nI n) (hn8 : n ≤ 8) (hc : c < n) : Met l yX8_off (ws_ yX8_off cX8_off 5 none) ({ frames := 0, cells := 0, slots := 0, locals := 0 }) (va_Pc [.ref (ad 0), .int x, .int z] (mPre D dA (shM st) ad N σ)) (va_Qv (fun (u : mMem) => u = offM σ st p n c) (mB D dA (shM st) ad N) (mAd ad N)) 0 0 (mAd ad N) := by
  refine Met.ofW (cc := cX8_off) (maxL := 5) (ret := none) (by decide) rfl ?_
  intro pp ee ss mm args below meth cd s₁ B hml hv
  obtain ⟨rfl, hP, hE⟩ := hv
  have hx := B.exec
  have hb := B.bytes
  have hr := B.returns
  have hts := atoms_spec (ws := ws_ yX8_off cX8_off 5 none) B.pre
  have hts : ∀ w ∈ lw_all, w.before _ ss = true := fun w h => hts w (List.mem_cons_of_mem _ h)
  have hown : ss.vm.findClass RX8 = some mm.cls := findClass_of_methodNamed B.named
  have hlocks := B.notSynchronized
  have hD := hA.2.self
  have hS : va_S (mAd ad N) ss.heap ss.heap [] := va_S.rf
  have hNN := hA.1
  have hl := lv_entry ([.ref (ad 0), .int x, .int z]) (n := 5) (Nat.le_of_ble_eq_true rfl)
  rw [lg_entry_eq]
  generalize (lg_sl ([.ref (ad 0), .int x, .int z]) ++ List.replicate (5 - (lg_sl ([.ref (ad 0), .int x, .int z])).length) Slot.unset).toArray = ls at hl ⊢
  have hl : lv_has ls 5 [(0, .ref (ad 0)), (1, .int x), (2, .int z)] := hl
  refine lv_bipush (v := 40) hx hb dX8_off_0 (by decide) ?_
  refine lv_iload_n hx hb dX8_off_2 rfl (lv_at hl 1 rfl) ?_
  refine lv_imul hx hb dX8_off_3 ?_
  refine lv_rwi (mi_mul rfl hx0) ?_
  refine lv_istore_n (lv' := [(3, .int (nI (40 * p))), (0, .ref (ad 0)), (1, .int x), (2, .int z)]) hx hb dX8_off_4 rfl hl (by decide) rfl (fun ls hl => ?_)
  refine lv_aload_n hx hb dX8_off_5 rfl (lv_at hl 1 rfl) ?_
  refine mg_ref hx hb hts in_X8 hown hE hP 0 (yl_n hA (by decide)) rfl rfl 3 rfl (by decide) (hts _ q767) (fun _ h9 => h9) dX8_off_6 ?_
  refine lv_iload_n hx hb dX8_off_9 rfl (lv_at hl 0 rfl) ?_
  refine lv_iconst (v := 3) hx hb dX8_off_10 (by decide) ?_
  refine lv_iadd hx hb dX8_off_11 ?_
  refine lv_dup2_11 hx hb dX8_off_12 rfl rfl ?_
  refine mg_ild hx hb hE hP st (yl_st hA hst) (shM_st hst _) (40 * p + 3) (by omega) (mi_add rfl rfl) (by decide) dX8_off_13 ?_
  refine lv_iconst (v := 1) hx hb dX8_off_14 (by decide) ?_
  refine lv_isub hx hb dX8_off_15 ?_
  refine lv_rwi (mi_sub (a := n) (b := 1) hn rfl (by omega)) ?_
  refine mg_ist (v := (nI (n - 1))) hx hb hE hD hP hS st (yl_st hA hst) (shM_st hst _) (40 * p + 3) (by omega) (mi_add rfl rfl) (by decide) dX8_off_16 (fun H locs hP hS => ?_)
  refine lv_iconst (v := 4) hx hb dX8_off_17 (by decide) ?_
  refine lv_iload_n hx hb dX8_off_18 rfl (lv_at hl 3 rfl) ?_
  refine lv_imul hx hb dX8_off_19 ?_
  refine lv_rwi (mi_mul rfl hz0) ?_
  refine lv_istore (lv' := [(4, .int (nI (4 * c))), (3, .int (nI (40 * p))), (0, .ref (ad 0)), (1, .int x), (2, .int z)]) hx hb dX8_off_20 hl (by decide) rfl (fun ls hl => ?_)
  have lp22 : ∀ (fu : Nat) (j : Nat) (_ : c * 4 + j ≤ 4 * (n - 1)) (_ : 4 * (n - 1) - (4 * c + j) < fu) (H : Heap) (locs : List Loc) (_ : va_P D xCl (mW dA (shM st) ad N (va_up σ st (osh (upd (σ st) (40 * p + 3) (nI (n - 1))) (40 * p) (4 * c) j))) H) (_ : va_S (mAd ad N) ss.heap H locs) (ls : Array Slot) (_ : lv_has ls 5 [(4, .int (nI (4 * c + j))), (3, .int (nI (40 * p))), (0, .ref (ad 0)), (1, .int x), (2, .int z)]), W pp l ee (headSpec (ws_ yX8_off cX8_off 5 none) ({ frames := 0, cells := 0, slots := 0, locals := 0 })).room ss mm ([.ref (ad 0), .int x, .int z] : List Value).toArray below meth cd H locs 0 0 (MQ below (va_Qv (fun (u : mMem) => u = offM σ st p n c) (mB D dA (shM st) ad N) (mAd ad N)) ([.ref (ad 0), .int x, .int z] : List Value).toArray ss 0 0 (mAd ad N)) (F0 mm 22 ls []) := by
    intro fu
    induction fu with
    | zero => intro j hj hfu; exact absurd hfu (Nat.not_lt_zero _)
    | succ fu ih22 =>
      intro j hj hfu H locs hP hS ls hl
      refine lv_iload hx hb dX8_off_22 (lv_at hl 0 rfl) ?_
      refine lv_iconst (v := 4) hx hb dX8_off_24 (by decide) ?_
      refine lv_aload_n hx hb dX8_off_25 rfl (lv_at hl 2 rfl) ?_
      refine mg_ref hx hb hts in_X8 hown hE hP 0 (yl_n hA (by decide)) rfl rfl 3 rfl (by decide) (hts _ q767) (fun _ h9 => h9) dX8_off_26 ?_
      refine lv_iload_n hx hb dX8_off_29 rfl (lv_at hl 1 rfl) ?_
      refine lv_iconst (v := 3) hx hb dX8_off_30 (by decide) ?_
      refine lv_iadd hx hb dX8_off_31 ?_
      refine mg_ild hx hb hE hP st (yl_st hA hst) (shM_st hst _) (40 * p + 3) (by omega) (mi_add rfl rfl) (by decide) dX8_off_32 ?_
      refine lv_rwi (congrFun (va_up_self _ _ _) _) ?_
      refine lv_imul hx hb dX8_off_33 ?_
      refine lv_icmp_ge (tgt := 67) hx hb dX8_off_34 (by decide) (fun c_1 => ?_) (fun c_1 => ?_)
      · have nc_1 : 4 * (n - 1) ≤ 4 * c + j := mi_le (mi_mul rfl ((osh_ne (by omega)).trans pk_us)) rfl (by omega) (by omega) c_1
        exact W.vret hx hb hr (fun t ht hW => ⟨⟨_, rfl, by rw [offM, show 4 * (n - 1 - c) = j by omega], mB.of ht hP⟩, hS.F ht⟩) hS.2.2 dX8_off_67
      · have nc_1 : 4 * c + j < 4 * (n - 1) := mi_nle (mi_mul rfl ((osh_ne (by omega)).trans pk_us)) rfl (by omega) (by omega) c_1
        refine lv_aload_n hx hb dX8_off_37 rfl (lv_at hl 2 rfl) ?_
        refine mg_ref hx hb hts in_X8 hown hE hP 0 (yl_n hA (by decide)) rfl rfl 3 rfl (by decide) (hts _ q767) (fun _ h9 => h9) dX8_off_38 ?_
        refine lv_iload_n hx hb dX8_off_41 rfl (lv_at hl 1 rfl) ?_
        refine lv_bipush (v := 8) hx hb dX8_off_42 (by decide) ?_
        refine lv_iadd hx hb dX8_off_44 ?_
        refine lv_iload hx hb dX8_off_45 (lv_at hl 0 rfl) ?_
        refine lv_iadd hx hb dX8_off_47 ?_
        refine lv_aload_n hx hb dX8_off_48 rfl (lv_at hl 2 rfl) ?_
        refine mg_ref hx hb hts in_X8 hown hE hP 0 (yl_n hA (by decide)) rfl rfl 3 rfl (by decide) (hts _ q767) (fun _ h9 => h9) dX8_off_49 ?_
        refine lv_iload_n hx hb dX8_off_52 rfl (lv_at hl 1 rfl) ?_
        refine lv_bipush (v := 12) hx hb dX8_off_53 (by decide) ?_
        refine lv_iadd hx hb dX8_off_55 ?_
        refine lv_iload hx hb dX8_off_56 (lv_at hl 0 rfl) ?_
        refine lv_iadd hx hb dX8_off_58 ?_
        refine mg_ild hx hb hE hP st (yl_st hA hst) (shM_st hst _) (40 * p + 12 + (4 * c + j)) (by omega) (mi_add (mi_add rfl rfl) rfl) (by decide) dX8_off_59 ?_
        refine lv_rwi (congrFun (va_up_self _ _ _) _) ?_
        refine mg_ist (v := (osh (upd (σ st) (40 * p + 3) (nI (n - 1))) (40 * p) (4 * c) j) (40 * p + 12 + (4 * c + j))) hx hb hE hD hP hS st (yl_st hA hst) (shM_st hst _) (40 * p + 8 + (4 * c + j)) (by omega) (mi_add (mi_add rfl rfl) rfl) (by decide) dX8_off_60 (fun H locs hP hS => ?_)
        refine lv_iinc (v := (nI (4 * c + j + 1))) (lv' := [(4, .int (nI (4 * c + j + 1))), (3, .int (nI (40 * p))), (0, .ref (ad 0)), (1, .int x), (2, .int z)]) hx hb dX8_off_61 hl (k := 0) rfl (mi_add rfl rfl) (by decide) rfl (fun ls hl => ?_)
        refine lv_goto (tgt := 22) hx hb dX8_off_64 (by decide) ?_
        exact ih22  (j + 1) (by omega) (by omega) _ _ (m_eq (mup_up _ _ _ _ _) hP) hS ls (lv_sub hl [0, 1, 2, 3, 4] rfl)
  exact lp22 (4 * (n - 1) - (4 * c + 0) + 1) 0 (by omega) (by omega) _ _ (m_eq (rfl) hP) hS ls (lv_sub hl [0, 1, 2, 3, 4] rfl)
set_option maxHeartbeats 4000000 in
set_option maxRecDepth 100000 in
theorem mt_X8_pay (l : Launch) (D : va_G) (dA : Nat → ClassId) (st : Nat) (hst : st = 1 ∨ st = 2) (ad : Nat → Nat) (N : Nat) (hA : yA ad N) (σ : mMem) (p c : Int32) (np : Nat) (nc : Nat → Nat) (ld : Nat → Nat → Nat) (hF : yFk σ 1 np nc ld) (ru : Nat) (hru : σ 5 0 = nI ru) (hru3 : ru < 3) : Met l yX8_pay (ws_ yX8_pay cX8_pay 5 (some .int)) ({ frames := 3, cells := 0, slots := 0, locals := 68 }) (va_Pc [.ref (ad 0), .int p, .int c] (mPre D dA (shM st) ad N σ)) (va_Qi (fun (r : Int32) (u : mMem × Nat) => (if ik p np ∧ ik c (nc (tn p)) then (if letm ru c (σ 1 (40 * tn p + 3)) then (if σ 1 (40 * tn p + 8 + 4 * tn c + 1) ≤ σ 1 (40 * tn p) then (r = nI (nc (tn p) - 1) ∧ u = (offM (mup σ 1 (40 * tn p) (σ 1 (40 * tn p) - σ 1 (40 * tn p + 8 + 4 * tn c + 1))) 1 (tn p) (nc (tn p)) (tn c), 1)) else (r = -4 ∧ u = (σ, st))) else (r = -2 ∧ u = (σ, st))) else (r = -1 ∧ u = (σ, st)))) (mBM D dA ad N) (mAd ad N)) 0 0 (mAd ad N) := by
  refine Met.ofW (cc := cX8_pay) (maxL := 5) (ret := (some .int)) (by decide) rfl ?_
  intro pp ee ss mm args below meth cd s₁ B hml hv
  obtain ⟨rfl, hP, hE⟩ := hv
  have hx := B.exec
  have hb := B.bytes
  have hr := B.returns
  have hts := atoms_spec (ws := ws_ yX8_pay cX8_pay 5 (some .int)) B.pre
  have hts : ∀ w ∈ lw_all, w.before _ ss = true := fun w h => hts w (List.mem_cons_of_mem _ h)
  have hown : ss.vm.findClass RX8 = some mm.cls := findClass_of_methodNamed B.named
  have hlocks := B.notSynchronized
  have hD := hA.2.self
  have hS : va_S (mAd ad N) ss.heap ss.heap [] := va_S.rf
  have hNN := hA.1
  have hn5 := hF.n5
  have hl := lv_entry ([.ref (ad 0), .int p, .int c]) (n := 5) (Nat.le_of_ble_eq_true rfl)
  rw [lg_entry_eq]
  generalize (lg_sl ([.ref (ad 0), .int p, .int c]) ++ List.replicate (5 - (lg_sl ([.ref (ad 0), .int p, .int c])).length) Slot.unset).toArray = ls at hl ⊢
  have hl : lv_has ls 5 [(0, .ref (ad 0)), (1, .int p), (2, .int c)] := hl
  refine lv_aload_n hx hb dX8_pay_0 rfl (lv_at hl 0 rfl) ?_
  refine lv_iload_n hx hb dX8_pay_1 rfl (lv_at hl 1 rfl) ?_
  refine lv_iload_n hx hb dX8_pay_2 rfl (lv_at hl 2 rfl) ?_
  refine vp_callSi (W.runV (As := [.int p, .int c]) (rest := []) ⟨hx, hb, hml, hown, hts⟩ (mt_X8_isCoat l D dA st hst ad N hA σ p c np nc ld hF) (cwV 2 hts (lw_V q877 q879 qs22 q55 q880) rfl rfl rfl (by decide +kernel) ⟨Nat.le_of_ble_eq_true rfl, Nat.le_of_ble_eq_true rfl⟩) ⟨mPre.blind, m_recv hE hP 0 (yl_n hA (by decide)) rfl rfl, mPre.at hE hP⟩ rfl rfl hl.1 rfl (lv_room (Nat.le_of_ble_eq_true rfl)) dX8_pay_3 ⟨Nat.le_of_ble_eq_true rfl, Nat.le_of_ble_eq_true rfl⟩) (fun r_1 hr_1 => ?_)
  subst hr_1
  refine lv_if_ne (tgt := 11) hx hb dX8_pay_6 (by decide) (fun c_2 => ?_) (fun c_2 => ?_)
  · have c_2 : ik p np ∧ ik c (nc (tn p)) := bi_t c_2
    obtain ⟨c_2_0, c_2_1⟩ := id c_2
    have c_2_0_lt := ik_lt c_2_0
    have c_2_0_m := hF.m c_2_0_lt
    have c_2_0_8 := hF.m8 c_2_0_lt
    have c_2_1_lt := ik_lt c_2_1
    refine lv_bipush (v := 40) hx hb dX8_pay_11 (by decide) ?_
    refine lv_iload_n hx hb dX8_pay_13 rfl (lv_at hl 1 rfl) ?_
    refine lv_imul hx hb dX8_pay_14 ?_
    refine lv_rwi (mi_mul rfl (ik_eq c_2_0)) ?_
    refine lv_istore_n (lv' := [(3, .int (nI (40 * (tn p)))), (0, .ref (ad 0)), (1, .int p), (2, .int c)]) hx hb dX8_pay_15 rfl hl (by decide) rfl (fun ls hl => ?_)
    refine lv_aload_n hx hb dX8_pay_16 rfl (lv_at hl 1 rfl) ?_
    refine lv_iload_n hx hb dX8_pay_17 rfl (lv_at hl 3 rfl) ?_
    refine lv_aload_n hx hb dX8_pay_18 rfl (lv_at hl 1 rfl) ?_
    refine mg_ref hx hb hts in_X8 hown hE hP 0 (yl_n hA (by decide)) rfl rfl 1 rfl (by decide) (hts _ q765) (fun _ h9 => h9) dX8_pay_19 ?_
    refine lv_iload_n hx hb dX8_pay_22 rfl (lv_at hl 0 rfl) ?_
    refine lv_iconst (v := 3) hx hb dX8_pay_23 (by decide) ?_
    refine lv_iadd hx hb dX8_pay_24 ?_
    refine mg_ild hx hb hE hP 1 (yl_n hA (by decide)) rfl (40 * (tn p) + 3) (by omega) (mi_add rfl rfl) (by decide) dX8_pay_25 ?_
    refine vp_callSi (W.runV (As := [.int c, .int (σ 1 (40 * (tn p) + 3))]) (rest := []) ⟨hx, hb, hml, hown, hts⟩ (mt_X8_mayOff l D dA st hst ad N hA σ c (σ 1 (40 * (tn p) + 3)) ru hru hru3) (cwV 2 hts (lw_V q966 q968 qs30 q55 q969) rfl rfl rfl (by decide +kernel) ⟨Nat.le_of_ble_eq_true rfl, Nat.le_of_ble_eq_true rfl⟩) ⟨mPre.blind, m_recv hE hP 0 (yl_n hA (by decide)) rfl rfl, mPre.at hE hP⟩ rfl rfl hl.1 rfl (lv_room (Nat.le_of_ble_eq_true rfl)) dX8_pay_26 ⟨Nat.le_of_ble_eq_true rfl, Nat.le_of_ble_eq_true rfl⟩) (fun r_3 hr_3 => ?_)
    subst hr_3
    refine lv_if_ne (tgt := 35) hx hb dX8_pay_29 (by decide) (fun c_4 => ?_) (fun c_4 => ?_)
    · have c_4 : letm ru c (σ 1 (40 * (tn p) + 3)) := bi_t c_4
      refine lv_aload_n hx hb dX8_pay_35 rfl (lv_at hl 1 rfl) ?_
      refine mg_ref hx hb hts in_X8 hown hE hP 0 (yl_n hA (by decide)) rfl rfl 1 rfl (by decide) (hts _ q765) (fun _ h9 => h9) dX8_pay_36 ?_
      refine lv_iload_n hx hb dX8_pay_39 rfl (lv_at hl 0 rfl) ?_
      refine lv_bipush (v := 8) hx hb dX8_pay_40 (by decide) ?_
      refine lv_iadd hx hb dX8_pay_42 ?_
      refine lv_iconst (v := 4) hx hb dX8_pay_43 (by decide) ?_
      refine lv_iload_n hx hb dX8_pay_44 rfl (lv_at hl 3 rfl) ?_
      refine lv_imul hx hb dX8_pay_45 ?_
      refine lv_iadd hx hb dX8_pay_46 ?_
      refine lv_iconst (v := 1) hx hb dX8_pay_47 (by decide) ?_
      refine lv_iadd hx hb dX8_pay_48 ?_
      refine mg_ild hx hb hE hP 1 (yl_n hA (by decide)) rfl (40 * (tn p) + 8 + 4 * (tn c) + 1) (by omega) (mi_add (mi_add (mi_add rfl rfl) (mi_mul rfl (ik_eq c_2_1))) rfl) (by decide) dX8_pay_49 ?_
      refine lv_istore (lv' := [(4, .int (σ 1 (40 * (tn p) + 8 + 4 * (tn c) + 1))), (3, .int (nI (40 * (tn p)))), (0, .ref (ad 0)), (1, .int p), (2, .int c)]) hx hb dX8_pay_50 hl (by decide) rfl (fun ls hl => ?_)
      refine lv_aload_n hx hb dX8_pay_52 rfl (lv_at hl 2 rfl) ?_
      refine mg_ref hx hb hts in_X8 hown hE hP 0 (yl_n hA (by decide)) rfl rfl 1 rfl (by decide) (hts _ q765) (fun _ h9 => h9) dX8_pay_53 ?_
      refine lv_iload_n hx hb dX8_pay_56 rfl (lv_at hl 1 rfl) ?_
      refine mg_ild hx hb hE hP 1 (yl_n hA (by decide)) rfl (40 * (tn p)) (by omega) rfl (by decide) dX8_pay_57 ?_
      refine lv_iload hx hb dX8_pay_58 (lv_at hl 0 rfl) ?_
      refine lv_icmp_ge (tgt := 66) hx hb dX8_pay_60 (by decide) (fun c_5 => ?_) (fun c_5 => ?_)
      · skip
        refine lv_aload_n hx hb dX8_pay_66 rfl (lv_at hl 2 rfl) ?_
        refine lv_aload_n hx hb dX8_pay_67 rfl (lv_at hl 2 rfl) ?_
        refine mg_ref hx hb hts in_X8 hown hE hP 0 (yl_n hA (by decide)) rfl rfl 1 rfl (by decide) (hts _ q765) (fun _ h9 => h9) dX8_pay_68 ?_
        refine mg_state (j := 1) hx hb hts hown hE hD hP hS hA.1 (hts _ q767) dX8_pay_71 (fun H locs hP hS => ?_)
        refine lv_aload_n hx hb dX8_pay_74 rfl (lv_at hl 2 rfl) ?_
        refine mg_ref hx hb hts in_X8 hown hE hP 0 (yl_n hA (by decide)) rfl rfl 1 rfl (by decide) (hts _ q765) (fun _ h9 => h9) dX8_pay_75 ?_
        refine lv_iload_n hx hb dX8_pay_78 rfl (lv_at hl 1 rfl) ?_
        refine lv_dup2_11 hx hb dX8_pay_79 rfl rfl ?_
        refine mg_ild hx hb hE hP 1 (yl_n hA (by decide)) rfl (40 * (tn p)) (by omega) rfl (by decide) dX8_pay_80 ?_
        refine lv_iload hx hb dX8_pay_81 (lv_at hl 0 rfl) ?_
        refine lv_isub hx hb dX8_pay_83 ?_
        refine mg_ist (v := (σ 1 (40 * (tn p)) - σ 1 (40 * (tn p) + 8 + 4 * (tn c) + 1))) hx hb hE hD hP hS 1 (yl_n hA (by decide)) rfl (40 * (tn p)) (by omega) rfl (by decide) dX8_pay_84 (fun H locs hP hS => ?_)
        refine lv_aload_n hx hb dX8_pay_85 rfl (lv_at hl 2 rfl) ?_
        refine lv_iload_n hx hb dX8_pay_86 rfl (lv_at hl 3 rfl) ?_
        refine lv_iload_n hx hb dX8_pay_87 rfl (lv_at hl 4 rfl) ?_
        refine va_callv (va_runV (As := [.int p, .int c]) (rest := []) ⟨hx, hb, hml, hown, hts⟩ (mt_X8_off l D dA 1 (Or.inl rfl) ad N hA (mup σ 1 (40 * (tn p)) (σ 1 (40 * (tn p)) - σ 1 (40 * (tn p) + 8 + 4 * (tn c) + 1))) p (tn p) (ik_eq c_2_0) (by omega) c (tn c) (ik_eq c_2_1) (nc (tn p)) ((mup_ne2 (by omega)).trans c_2_0_m) (by omega) (by omega)) (cwV 2 hts (lw_V q970 q972 qs31 q55 q973) rfl rfl rfl (by decide +kernel) ⟨Nat.le_of_ble_eq_true rfl, Nat.le_of_ble_eq_true rfl⟩) ⟨mPre.blind, m_recv hE hP 0 (yl_n hA (by decide)) rfl rfl, mPre.at hE hP⟩ rfl rfl hl.1 rfl (lv_room (Nat.le_of_ble_eq_true rfl)) dX8_pay_88 ⟨Nat.le_of_ble_eq_true rfl, Nat.le_of_ble_eq_true rfl⟩) hS (fun q _ h => h) (fun q h => h) (fun ur_6 tr_6 H locs ht h0 hr_6 hB h1 h2 hS => ?_)
        subst hr_6
        have hP := mB.get ht hB
        refine lv_aload_n hx hb dX8_pay_91 rfl (lv_at hl 2 rfl) ?_
        refine mg_ref hx hb hts in_X8 hown hE hP 0 (yl_n hA (by decide)) rfl rfl 1 rfl (by decide) (hts _ q765) (fun _ h9 => h9) dX8_pay_92 ?_
        refine lv_iload_n hx hb dX8_pay_95 rfl (lv_at hl 1 rfl) ?_
        refine lv_iconst (v := 3) hx hb dX8_pay_96 (by decide) ?_
        refine lv_iadd hx hb dX8_pay_97 ?_
        refine mg_ild hx hb hE hP 1 (yl_n hA (by decide)) rfl (40 * (tn p) + 3) (by omega) (mi_add rfl rfl) (by decide) dX8_pay_98 ?_
        refine lv_rwi (offM_3 (by omega)) ?_
        exact W.iret (v := (nI ((nc (tn p)) - 1))) hx hb hr (fun t ht hW => ⟨⟨_, ((offM (mup σ 1 (40 * (tn p)) (σ 1 (40 * (tn p)) - σ 1 (40 * (tn p) + 8 + 4 * (tn c) + 1))) 1 (tn p) (nc (tn p)) (tn c)), 1), rfl, by dsimp only; rw [if_pos c_2, if_pos c_4, if_pos c_5]; exact ⟨rfl, rfl⟩, mBM.of ht hP⟩, hS.F ht⟩) hS.2.2 dX8_pay_99
      · skip
        refine lv_bipush (v := (-4)) hx hb dX8_pay_63 (by decide) ?_
        exact W.iret (v := (-4)) hx hb hr (fun t ht hW => ⟨⟨_, (σ, st), rfl, by dsimp only; rw [if_pos c_2, if_pos c_4, if_neg c_5]; exact ⟨rfl, rfl⟩, mBM.of ht hP⟩, hS.F ht⟩) hS.2.2 dX8_pay_65
    · have c_4 : ¬ (letm ru c (σ 1 (40 * (tn p) + 3))) := bi_f c_4
      refine lv_bipush (v := (-2)) hx hb dX8_pay_32 (by decide) ?_
      exact W.iret (v := (-2)) hx hb hr (fun t ht hW => ⟨⟨_, (σ, st), rfl, by dsimp only; rw [if_pos c_2, if_neg c_4]; exact ⟨rfl, rfl⟩, mBM.of ht hP⟩, hS.F ht⟩) hS.2.2 dX8_pay_34
  · have c_2 : ¬ (ik p np ∧ ik c (nc (tn p))) := bi_f c_2
    refine lv_iconst (v := (-1)) hx hb dX8_pay_9 (by decide) ?_
    exact W.iret (v := (-1)) hx hb hr (fun t ht hW => ⟨⟨_, (σ, st), rfl, by dsimp only; rw [if_neg c_2]; exact ⟨rfl, rfl⟩, mBM.of ht hP⟩, hS.F ht⟩) hS.2.2 dX8_pay_10
set_option maxHeartbeats 4000000 in
set_option maxRecDepth 100000 in
theorem mt_X8_isBetween (l : Launch) (D : va_G) (dA : Nat → ClassId) (st : Nat) (hst : st = 1 ∨ st = 2) (ad : Nat → Nat) (N : Nat) (hA : yA ad N) (σ : mMem) (p c : Int32) (np : Nat) (nc : Nat → Nat) (ld : Nat → Nat → Nat) (hF : yFk σ 1 np nc ld) (kp : ik p np) : Met l yX8_isBetween (ws_ yX8_isBetween cX8_isBetween 3 (some .boolean)) ({ frames := 0, cells := 0, slots := 0, locals := 0 }) (va_Pc [.ref (ad 0), .int p, .int c] (mPre D dA (shM st) ad N σ)) (vp_Si (fun r : Int32 => r = bi (btw c (nc (tn p))))) 0 0 (fun _ => False) := by
  refine Met.ofW (cc := cX8_isBetween) (maxL := 3) (ret := (some .boolean)) (by decide) rfl ?_
  intro pp ee ss mm args below meth cd s₁ B hml hv
  obtain ⟨rfl, hP, hE⟩ := hv
  have hx := B.exec
  have hb := B.bytes
  have hr := B.returns
  have hts := atoms_spec (ws := ws_ yX8_isBetween cX8_isBetween 3 (some .boolean)) B.pre
  have hts : ∀ w ∈ lw_all, w.before _ ss = true := fun w h => hts w (List.mem_cons_of_mem _ h)
  have hown : ss.vm.findClass RX8 = some mm.cls := findClass_of_methodNamed B.named
  have hlocks := B.notSynchronized
  have hNN := hA.1
  have hn5 := hF.n5
  have kp_lt := ik_lt kp
  have kp_m := hF.m kp_lt
  have kp_8 := hF.m8 kp_lt
  have hl := lv_entry ([.ref (ad 0), .int p, .int c]) (n := 3) (Nat.le_of_ble_eq_true rfl)
  rw [lg_entry_eq]
  generalize (lg_sl ([.ref (ad 0), .int p, .int c]) ++ List.replicate (3 - (lg_sl ([.ref (ad 0), .int p, .int c])).length) Slot.unset).toArray = ls at hl ⊢
  have hl : lv_has ls 3 [(0, .ref (ad 0)), (1, .int p), (2, .int c)] := hl
  refine lv_iload_n hx hb dX8_isBetween_0 rfl (lv_at hl 2 rfl) ?_
  refine lv_if_le (tgt := 25) hx hb dX8_isBetween_1 (by decide) (fun c_1 => ?_) (fun c_1 => ?_)
  · skip
    refine lv_iconst (v := 0) hx hb dX8_isBetween_25 (by decide) ?_
    exact W.zret (v := 0) hx hb hr rfl (fun t ht hW => ⟨_, rfl, bi_0 (fun q => ((btw_m kp_m (by omega)).mpr q).1 c_1), ht⟩) (fun q hq => by cases hq) dX8_isBetween_26
  · skip
    refine lv_iload_n hx hb dX8_isBetween_4 rfl (lv_at hl 2 rfl) ?_
    refine lv_aload_n hx hb dX8_isBetween_5 rfl (lv_at hl 0 rfl) ?_
    refine mg_ref hx hb hts in_X8 hown hE hP 0 (yl_n hA (by decide)) rfl rfl 1 rfl (by decide) (hts _ q765) (fun _ h9 => h9) dX8_isBetween_6 ?_
    refine lv_bipush (v := 40) hx hb dX8_isBetween_9 (by decide) ?_
    refine lv_iload_n hx hb dX8_isBetween_11 rfl (lv_at hl 1 rfl) ?_
    refine lv_imul hx hb dX8_isBetween_12 ?_
    refine lv_iconst (v := 3) hx hb dX8_isBetween_13 (by decide) ?_
    refine lv_iadd hx hb dX8_isBetween_14 ?_
    refine mg_ild hx hb hE hP 1 (yl_n hA (by decide)) rfl (40 * (tn p) + 3) (by omega) (mi_add (mi_mul rfl (ik_eq kp)) rfl) (by decide) dX8_isBetween_15 ?_
    refine lv_iconst (v := 1) hx hb dX8_isBetween_16 (by decide) ?_
    refine lv_isub hx hb dX8_isBetween_17 ?_
    refine lv_icmp_ge (tgt := 25) hx hb dX8_isBetween_18 (by decide) (fun c_2 => ?_) (fun c_2 => ?_)
    · skip
      refine lv_iconst (v := 0) hx hb dX8_isBetween_25 (by decide) ?_
      exact W.zret (v := 0) hx hb hr rfl (fun t ht hW => ⟨_, rfl, bi_0 (fun q => ((btw_m kp_m (by omega)).mpr q).2 c_2), ht⟩) (fun q hq => by cases hq) dX8_isBetween_26
    · skip
      refine lv_iconst (v := 1) hx hb dX8_isBetween_21 (by decide) ?_
      refine lv_goto (tgt := 26) hx hb dX8_isBetween_22 (by decide) ?_
      exact W.zret (v := 1) hx hb hr rfl (fun t ht hW => ⟨_, rfl, bi_1 ((btw_m kp_m (by omega)).mp ⟨c_1, c_2⟩), ht⟩) (fun q hq => by cases hq) dX8_isBetween_26
set_option maxHeartbeats 4000000 in
set_option maxRecDepth 100000 in
theorem mt_X8_cut (l : Launch) (D : va_G) (dA : Nat → ClassId) (st : Nat) (hst : st = 1 ∨ st = 2) (ad : Nat → Nat) (N : Nat) (hA : yA ad N) (σ : mMem) (p c : Int32) (np : Nat) (nc : Nat → Nat) (ld : Nat → Nat → Nat) (hF : yFk σ 1 np nc ld) : Met l yX8_cut (ws_ yX8_cut cX8_cut 3 (some .int)) ({ frames := 3, cells := 0, slots := 0, locals := 68 }) (va_Pc [.ref (ad 0), .int p, .int c] (mPre D dA (shM st) ad N σ)) (va_Qi (fun (r : Int32) (u : mMem × Nat) => (if ik p np ∧ ik c (nc (tn p)) then (if btw c (nc (tn p)) then (if σ 0 8 < σ 5 1 then (r = nI (nc (tn p) - 1) ∧ u = (mup (offM σ 1 (tn p) (nc (tn p)) (tn c)) 0 8 (offM σ 1 (tn p) (nc (tn p)) (tn c) 0 8 + 1), 1)) else (r = -4 ∧ u = (σ, st))) else (r = -2 ∧ u = (σ, st))) else (r = -1 ∧ u = (σ, st)))) (mBM D dA ad N) (mAd ad N)) 0 0 (mAd ad N) := by
  refine Met.ofW (cc := cX8_cut) (maxL := 3) (ret := (some .int)) (by decide) rfl ?_
  intro pp ee ss mm args below meth cd s₁ B hml hv
  obtain ⟨rfl, hP, hE⟩ := hv
  have hx := B.exec
  have hb := B.bytes
  have hr := B.returns
  have hts := atoms_spec (ws := ws_ yX8_cut cX8_cut 3 (some .int)) B.pre
  have hts : ∀ w ∈ lw_all, w.before _ ss = true := fun w h => hts w (List.mem_cons_of_mem _ h)
  have hown : ss.vm.findClass RX8 = some mm.cls := findClass_of_methodNamed B.named
  have hlocks := B.notSynchronized
  have hD := hA.2.self
  have hS : va_S (mAd ad N) ss.heap ss.heap [] := va_S.rf
  have hNN := hA.1
  have hn5 := hF.n5
  have hl := lv_entry ([.ref (ad 0), .int p, .int c]) (n := 3) (Nat.le_of_ble_eq_true rfl)
  rw [lg_entry_eq]
  generalize (lg_sl ([.ref (ad 0), .int p, .int c]) ++ List.replicate (3 - (lg_sl ([.ref (ad 0), .int p, .int c])).length) Slot.unset).toArray = ls at hl ⊢
  have hl : lv_has ls 3 [(0, .ref (ad 0)), (1, .int p), (2, .int c)] := hl
  refine lv_aload_n hx hb dX8_cut_0 rfl (lv_at hl 0 rfl) ?_
  refine lv_iload_n hx hb dX8_cut_1 rfl (lv_at hl 1 rfl) ?_
  refine lv_iload_n hx hb dX8_cut_2 rfl (lv_at hl 2 rfl) ?_
  refine vp_callSi (W.runV (As := [.int p, .int c]) (rest := []) ⟨hx, hb, hml, hown, hts⟩ (mt_X8_isCoat l D dA st hst ad N hA σ p c np nc ld hF) (cwV 2 hts (lw_V q877 q879 qs22 q55 q880) rfl rfl rfl (by decide +kernel) ⟨Nat.le_of_ble_eq_true rfl, Nat.le_of_ble_eq_true rfl⟩) ⟨mPre.blind, m_recv hE hP 0 (yl_n hA (by decide)) rfl rfl, mPre.at hE hP⟩ rfl rfl hl.1 rfl (lv_room (Nat.le_of_ble_eq_true rfl)) dX8_cut_3 ⟨Nat.le_of_ble_eq_true rfl, Nat.le_of_ble_eq_true rfl⟩) (fun r_1 hr_1 => ?_)
  subst hr_1
  refine lv_if_ne (tgt := 11) hx hb dX8_cut_6 (by decide) (fun c_2 => ?_) (fun c_2 => ?_)
  · have c_2 : ik p np ∧ ik c (nc (tn p)) := bi_t c_2
    obtain ⟨c_2_0, c_2_1⟩ := id c_2
    have c_2_0_lt := ik_lt c_2_0
    have c_2_0_m := hF.m c_2_0_lt
    have c_2_0_8 := hF.m8 c_2_0_lt
    have c_2_1_lt := ik_lt c_2_1
    refine lv_aload_n hx hb dX8_cut_11 rfl (lv_at hl 0 rfl) ?_
    refine lv_iload_n hx hb dX8_cut_12 rfl (lv_at hl 1 rfl) ?_
    refine lv_iload_n hx hb dX8_cut_13 rfl (lv_at hl 2 rfl) ?_
    refine vp_callSi (W.runV (As := [.int p, .int c]) (rest := []) ⟨hx, hb, hml, hown, hts⟩ (mt_X8_isBetween l D dA st hst ad N hA σ p c np nc ld hF c_2_0) (cwV 2 hts (lw_V q978 q980 qs32 q55 q981) rfl rfl rfl (by decide +kernel) ⟨Nat.le_of_ble_eq_true rfl, Nat.le_of_ble_eq_true rfl⟩) ⟨mPre.blind, m_recv hE hP 0 (yl_n hA (by decide)) rfl rfl, mPre.at hE hP⟩ rfl rfl hl.1 rfl (lv_room (Nat.le_of_ble_eq_true rfl)) dX8_cut_14 ⟨Nat.le_of_ble_eq_true rfl, Nat.le_of_ble_eq_true rfl⟩) (fun r_3 hr_3 => ?_)
    subst hr_3
    refine lv_if_ne (tgt := 23) hx hb dX8_cut_17 (by decide) (fun c_4 => ?_) (fun c_4 => ?_)
    · have c_4 : btw c (nc (tn p)) := bi_t c_4
      refine lv_aload_n hx hb dX8_cut_23 rfl (lv_at hl 0 rfl) ?_
      refine mg_get hx hb hts in_X8 hown hE hP 0 (yl_n hA (by decide)) rfl rfl 8 rfl (by decide) (hts _ q772) (fun _ h9 => h9) dX8_cut_24 ?_
      refine lv_aload_n hx hb dX8_cut_27 rfl (lv_at hl 0 rfl) ?_
      refine mg_ref hx hb hts in_X8 hown hE hP 0 (yl_n hA (by decide)) rfl rfl 6 rfl (by decide) (hts _ q770) (fun _ h9 => h9) dX8_cut_28 ?_
      refine lv_iconst (v := 1) hx hb dX8_cut_31 (by decide) ?_
      refine mg_ild hx hb hE hP 5 (yl_n hA (by decide)) rfl 1 (by omega) rfl (by decide) dX8_cut_32 ?_
      refine lv_icmp_lt (tgt := 39) hx hb dX8_cut_33 (by decide) (fun c_5 => ?_) (fun c_5 => ?_)
      · skip
        refine lv_aload_n hx hb dX8_cut_39 rfl (lv_at hl 0 rfl) ?_
        refine lv_aload_n hx hb dX8_cut_40 rfl (lv_at hl 0 rfl) ?_
        refine mg_ref hx hb hts in_X8 hown hE hP 0 (yl_n hA (by decide)) rfl rfl 1 rfl (by decide) (hts _ q765) (fun _ h9 => h9) dX8_cut_41 ?_
        refine mg_state (j := 1) hx hb hts hown hE hD hP hS hA.1 (hts _ q767) dX8_cut_44 (fun H locs hP hS => ?_)
        refine lv_aload_n hx hb dX8_cut_47 rfl (lv_at hl 0 rfl) ?_
        refine lv_iload_n hx hb dX8_cut_48 rfl (lv_at hl 1 rfl) ?_
        refine lv_iload_n hx hb dX8_cut_49 rfl (lv_at hl 2 rfl) ?_
        refine va_callv (va_runV (As := [.int p, .int c]) (rest := []) ⟨hx, hb, hml, hown, hts⟩ (mt_X8_off l D dA 1 (Or.inl rfl) ad N hA σ p (tn p) (ik_eq c_2_0) (by omega) c (tn c) (ik_eq c_2_1) (nc (tn p)) c_2_0_m (by omega) (by omega)) (cwV 2 hts (lw_V q970 q972 qs31 q55 q973) rfl rfl rfl (by decide +kernel) ⟨Nat.le_of_ble_eq_true rfl, Nat.le_of_ble_eq_true rfl⟩) ⟨mPre.blind, m_recv hE hP 0 (yl_n hA (by decide)) rfl rfl, mPre.at hE hP⟩ rfl rfl hl.1 rfl (lv_room (Nat.le_of_ble_eq_true rfl)) dX8_cut_50 ⟨Nat.le_of_ble_eq_true rfl, Nat.le_of_ble_eq_true rfl⟩) hS (fun q _ h => h) (fun q h => h) (fun ur_6 tr_6 H locs ht h0 hr_6 hB h1 h2 hS => ?_)
        subst hr_6
        have hP := mB.get ht hB
        refine lv_aload_n hx hb dX8_cut_53 rfl (lv_at hl 0 rfl) ?_
        refine lv_dup hx hb dX8_cut_54 rfl ?_
        refine mg_get hx hb hts in_X8 hown hE hP 0 (yl_n hA (by decide)) rfl rfl 8 rfl (by decide) (hts _ q772) (fun _ h9 => h9) dX8_cut_55 ?_
        refine lv_iconst (v := 1) hx hb dX8_cut_58 (by decide) ?_
        refine lv_iadd hx hb dX8_cut_59 ?_
        refine mg_put (v := ((offM σ 1 (tn p) (nc (tn p)) (tn c)) 0 8 + 1)) (ty := .int) hx hb hts in_X8 tyX8 tyX8_ok nmX8 hown hE hD hP hS 0 (yl_n hA (by decide)) rfl rfl 8 rfl (by decide) (hts _ q772) (fun _ h9 => h9) rfl (by decide +kernel) rfl rfl dX8_cut_60 (fun H locs hP hS => ?_)
        refine lv_aload_n hx hb dX8_cut_63 rfl (lv_at hl 0 rfl) ?_
        refine mg_ref hx hb hts in_X8 hown hE hP 0 (yl_n hA (by decide)) rfl rfl 1 rfl (by decide) (hts _ q765) (fun _ h9 => h9) dX8_cut_64 ?_
        refine lv_bipush (v := 40) hx hb dX8_cut_67 (by decide) ?_
        refine lv_iload_n hx hb dX8_cut_69 rfl (lv_at hl 1 rfl) ?_
        refine lv_imul hx hb dX8_cut_70 ?_
        refine lv_iconst (v := 3) hx hb dX8_cut_71 (by decide) ?_
        refine lv_iadd hx hb dX8_cut_72 ?_
        refine mg_ild hx hb hE hP 1 (yl_n hA (by decide)) rfl (40 * (tn p) + 3) (by omega) (mi_add (mi_mul rfl (ik_eq c_2_0)) rfl) (by decide) dX8_cut_73 ?_
        refine lv_rwi (mup_ne1 (by omega)) ?_
        refine lv_rwi (offM_3 (by omega)) ?_
        exact W.iret (v := (nI ((nc (tn p)) - 1))) hx hb hr (fun t ht hW => ⟨⟨_, ((mup (offM σ 1 (tn p) (nc (tn p)) (tn c)) 0 8 ((offM σ 1 (tn p) (nc (tn p)) (tn c)) 0 8 + 1)), 1), rfl, by dsimp only; rw [if_pos c_2, if_pos c_4, if_pos c_5]; exact ⟨rfl, rfl⟩, mBM.of ht hP⟩, hS.F ht⟩) hS.2.2 dX8_cut_74
      · skip
        refine lv_bipush (v := (-4)) hx hb dX8_cut_36 (by decide) ?_
        exact W.iret (v := (-4)) hx hb hr (fun t ht hW => ⟨⟨_, (σ, st), rfl, by dsimp only; rw [if_pos c_2, if_pos c_4, if_neg c_5]; exact ⟨rfl, rfl⟩, mBM.of ht hP⟩, hS.F ht⟩) hS.2.2 dX8_cut_38
    · have c_4 : ¬ (btw c (nc (tn p))) := bi_f c_4
      refine lv_bipush (v := (-2)) hx hb dX8_cut_20 (by decide) ?_
      exact W.iret (v := (-2)) hx hb hr (fun t ht hW => ⟨⟨_, (σ, st), rfl, by dsimp only; rw [if_pos c_2, if_neg c_4]; exact ⟨rfl, rfl⟩, mBM.of ht hP⟩, hS.F ht⟩) hS.2.2 dX8_cut_22
  · have c_2 : ¬ (ik p np ∧ ik c (nc (tn p))) := bi_f c_2
    refine lv_iconst (v := (-1)) hx hb dX8_cut_9 (by decide) ?_
    exact W.iret (v := (-1)) hx hb hr (fun t ht hW => ⟨⟨_, (σ, st), rfl, by dsimp only; rw [if_neg c_2]; exact ⟨rfl, rfl⟩, mBM.of ht hP⟩, hS.F ht⟩) hS.2.2 dX8_cut_10
set_option maxHeartbeats 4000000 in
set_option maxRecDepth 100000 in
theorem mt_X8_outer (l : Launch) (D : va_G) (dA : Nat → ClassId) (st : Nat) (hst : st = 1 ∨ st = 2) (ad : Nat → Nat) (N : Nat) (hA : yA ad N) (σ : mMem) (x : Int32) (p : Nat) (hx0 : x = nI p) (hp5 : p < 5) (n : Nat) (hn : σ 1 (40 * p + 3) = nI n) (hn1 : 0 < n) (hn8 : n ≤ 8) : Met l yX8_outer (ws_ yX8_outer cX8_outer 2 (some .int)) ({ frames := 0, cells := 0, slots := 0, locals := 0 }) (va_Pc [.ref (ad 0), .int x] (mPre D dA (shM st) ad N σ)) (vp_Si (fun r : Int32 => r = nI (40 * p + 8 + 4 * (n - 1)))) 0 0 (fun _ => False) := by
  refine Met.ofW (cc := cX8_outer) (maxL := 2) (ret := (some .int)) (by decide) rfl ?_
  intro pp ee ss mm args below meth cd s₁ B hml hv
  obtain ⟨rfl, hP, hE⟩ := hv
  have hx := B.exec
  have hb := B.bytes
  have hr := B.returns
  have hts := atoms_spec (ws := ws_ yX8_outer cX8_outer 2 (some .int)) B.pre
  have hts : ∀ w ∈ lw_all, w.before _ ss = true := fun w h => hts w (List.mem_cons_of_mem _ h)
  have hown : ss.vm.findClass RX8 = some mm.cls := findClass_of_methodNamed B.named
  have hlocks := B.notSynchronized
  have hNN := hA.1
  have hl := lv_entry ([.ref (ad 0), .int x]) (n := 2) (Nat.le_of_ble_eq_true rfl)
  rw [lg_entry_eq]
  generalize (lg_sl ([.ref (ad 0), .int x]) ++ List.replicate (2 - (lg_sl ([.ref (ad 0), .int x])).length) Slot.unset).toArray = ls at hl ⊢
  have hl : lv_has ls 2 [(0, .ref (ad 0)), (1, .int x)] := hl
  refine lv_bipush (v := 40) hx hb dX8_outer_0 (by decide) ?_
  refine lv_iload_n hx hb dX8_outer_2 rfl (lv_at hl 1 rfl) ?_
  refine lv_imul hx hb dX8_outer_3 ?_
  refine lv_bipush (v := 8) hx hb dX8_outer_4 (by decide) ?_
  refine lv_iadd hx hb dX8_outer_6 ?_
  refine lv_iconst (v := 4) hx hb dX8_outer_7 (by decide) ?_
  refine lv_aload_n hx hb dX8_outer_8 rfl (lv_at hl 0 rfl) ?_
  refine mg_ref hx hb hts in_X8 hown hE hP 0 (yl_n hA (by decide)) rfl rfl 1 rfl (by decide) (hts _ q765) (fun _ h9 => h9) dX8_outer_9 ?_
  refine lv_bipush (v := 40) hx hb dX8_outer_12 (by decide) ?_
  refine lv_iload_n hx hb dX8_outer_14 rfl (lv_at hl 1 rfl) ?_
  refine lv_imul hx hb dX8_outer_15 ?_
  refine lv_iconst (v := 3) hx hb dX8_outer_16 (by decide) ?_
  refine lv_iadd hx hb dX8_outer_17 ?_
  refine mg_ild hx hb hE hP 1 (yl_n hA (by decide)) rfl (40 * p + 3) (by omega) (mi_add (mi_mul rfl hx0) rfl) (by decide) dX8_outer_18 ?_
  refine lv_iconst (v := 1) hx hb dX8_outer_19 (by decide) ?_
  refine lv_isub hx hb dX8_outer_20 ?_
  refine lv_imul hx hb dX8_outer_21 ?_
  refine lv_iadd hx hb dX8_outer_22 ?_
  exact W.iret (v := (((40 * x) + 8) + (4 * (σ 1 (40 * p + 3) - 1)))) hx hb hr (fun t ht hW => ⟨_, rfl, mi_add (mi_add (mi_mul rfl hx0) rfl) (mi_mul rfl (mi_sub (a := n) (b := 1) hn rfl (by omega))), ht⟩) (fun q hq => by cases hq) dX8_outer_23
set_option maxHeartbeats 4000000 in
set_option maxRecDepth 100000 in
theorem mt_X8_gains (l : Launch) (D : va_G) (dA : Nat → ClassId) (st : Nat) (hst : st = 1 ∨ st = 2) (ad : Nat → Nat) (N : Nat) (hA : yA ad N) (σ : mMem) (a b : Int32) (np : Nat) (nc : Nat → Nat) (ld : Nat → Nat → Nat) (hF : yFk σ 1 np nc ld) (ka : ik a np) (kb : ik b np) (na : 0 < nc (tn a)) (nb : 0 < nc (tn b)) : Met l yX8_gains (ws_ yX8_gains cX8_gains 3 (some .int)) ({ frames := 1, cells := 0, slots := 0, locals := 21 }) (va_Pc [.ref (ad 0), .int a, .int b] (mPre D dA (shM st) ad N σ)) (vp_Si (fun r : Int32 => r = gns σ nc ld (tn a) (tn b))) 0 0 (fun _ => False) := by
  refine Met.ofW (cc := cX8_gains) (maxL := 3) (ret := (some .int)) (by decide) rfl ?_
  intro pp ee ss mm args below meth cd s₁ B hml hv
  obtain ⟨rfl, hP, hE⟩ := hv
  have hx := B.exec
  have hb := B.bytes
  have hr := B.returns
  have hts := atoms_spec (ws := ws_ yX8_gains cX8_gains 3 (some .int)) B.pre
  have hts : ∀ w ∈ lw_all, w.before _ ss = true := fun w h => hts w (List.mem_cons_of_mem _ h)
  have hown : ss.vm.findClass RX8 = some mm.cls := findClass_of_methodNamed B.named
  have hlocks := B.notSynchronized
  have hNN := hA.1
  have hn5 := hF.n5
  have ka_lt := ik_lt ka
  have ka_m := hF.m ka_lt
  have ka_8 := hF.m8 ka_lt
  have kb_lt := ik_lt kb
  have kb_m := hF.m kb_lt
  have kb_8 := hF.m8 kb_lt
  have hl := lv_entry ([.ref (ad 0), .int a, .int b]) (n := 3) (Nat.le_of_ble_eq_true rfl)
  rw [lg_entry_eq]
  generalize (lg_sl ([.ref (ad 0), .int a, .int b]) ++ List.replicate (3 - (lg_sl ([.ref (ad 0), .int a, .int b])).length) Slot.unset).toArray = ls at hl ⊢
  have hl : lv_has ls 3 [(0, .ref (ad 0)), (1, .int a), (2, .int b)] := hl
  refine lv_aload_n hx hb dX8_gains_0 rfl (lv_at hl 0 rfl) ?_
  refine mg_ref hx hb hts in_X8 hown hE hP 0 (yl_n hA (by decide)) rfl rfl 4 rfl (by decide) (hts _ q768) (fun _ h9 => h9) dX8_gains_1 ?_
  refine lv_iconst (v := 5) hx hb dX8_gains_4 (by decide) ?_
  refine lv_iload_n hx hb dX8_gains_5 rfl (lv_at hl 1 rfl) ?_
  refine lv_imul hx hb dX8_gains_6 ?_
  refine lv_aload_n hx hb dX8_gains_7 rfl (lv_at hl 0 rfl) ?_
  refine mg_ref hx hb hts in_X8 hown hE hP 0 (yl_n hA (by decide)) rfl rfl 1 rfl (by decide) (hts _ q765) (fun _ h9 => h9) dX8_gains_8 ?_
  refine lv_aload_n hx hb dX8_gains_11 rfl (lv_at hl 0 rfl) ?_
  refine lv_iload_n hx hb dX8_gains_12 rfl (lv_at hl 1 rfl) ?_
  refine vp_callSi (W.runV (As := [.int a]) (rest := [.ref (ad 1), .int (5 * a), .ref (ad 3)]) ⟨hx, hb, hml, hown, hts⟩ (mt_X8_outer l D dA st hst ad N hA σ a (tn a) (ik_eq ka) (by omega) (nc (tn a)) ka_m (by omega) (by omega)) (cwV 1 hts (lw_V q994 q996 qs35 q55 q997) rfl rfl rfl (by decide +kernel) ⟨Nat.le_of_ble_eq_true rfl, Nat.le_of_ble_eq_true rfl⟩) ⟨mPre.blind, m_recv hE hP 0 (yl_n hA (by decide)) rfl rfl, mPre.at hE hP⟩ rfl rfl hl.1 rfl (lv_room (Nat.le_of_ble_eq_true rfl)) dX8_gains_13 ⟨Nat.le_of_ble_eq_true rfl, Nat.le_of_ble_eq_true rfl⟩) (fun r_1 hr_1 => ?_)
  subst hr_1
  refine mg_ild hx hb hE hP 1 (yl_n hA (by decide)) rfl (40 * (tn a) + 8 + 4 * (nc (tn a) - 1)) (by omega) rfl (by decide) dX8_gains_16 ?_
  refine lv_iadd hx hb dX8_gains_17 ?_
  refine mg_ild hx hb hE hP 3 (yl_n hA (by decide)) rfl (5 * (tn a) + (ld (tn a) (nc (tn a) - 1))) (by have := (hF.l ka_lt (nc (tn a) - 1) (by omega)).2; omega) (mi_add (mi_mul rfl (ik_eq ka)) ((hF.l ka_lt (nc (tn a) - 1) (by omega)).1)) (by decide) dX8_gains_18 ?_
  refine lv_aload_n hx hb dX8_gains_19 rfl (lv_at hl 0 rfl) ?_
  refine mg_ref hx hb hts in_X8 hown hE hP 0 (yl_n hA (by decide)) rfl rfl 4 rfl (by decide) (hts _ q768) (fun _ h9 => h9) dX8_gains_20 ?_
  refine lv_iconst (v := 5) hx hb dX8_gains_23 (by decide) ?_
  refine lv_iload_n hx hb dX8_gains_24 rfl (lv_at hl 1 rfl) ?_
  refine lv_imul hx hb dX8_gains_25 ?_
  refine lv_aload_n hx hb dX8_gains_26 rfl (lv_at hl 0 rfl) ?_
  refine mg_ref hx hb hts in_X8 hown hE hP 0 (yl_n hA (by decide)) rfl rfl 1 rfl (by decide) (hts _ q765) (fun _ h9 => h9) dX8_gains_27 ?_
  refine lv_aload_n hx hb dX8_gains_30 rfl (lv_at hl 0 rfl) ?_
  refine lv_iload_n hx hb dX8_gains_31 rfl (lv_at hl 2 rfl) ?_
  refine vp_callSi (W.runV (As := [.int b]) (rest := [.ref (ad 1), .int (5 * a), .ref (ad 3), .int (σ 3 (5 * (tn a) + (ld (tn a) (nc (tn a) - 1))))]) ⟨hx, hb, hml, hown, hts⟩ (mt_X8_outer l D dA st hst ad N hA σ b (tn b) (ik_eq kb) (by omega) (nc (tn b)) kb_m (by omega) (by omega)) (cwV 1 hts (lw_V q994 q996 qs35 q55 q997) rfl rfl rfl (by decide +kernel) ⟨Nat.le_of_ble_eq_true rfl, Nat.le_of_ble_eq_true rfl⟩) ⟨mPre.blind, m_recv hE hP 0 (yl_n hA (by decide)) rfl rfl, mPre.at hE hP⟩ rfl rfl hl.1 rfl (lv_room (Nat.le_of_ble_eq_true rfl)) dX8_gains_32 ⟨Nat.le_of_ble_eq_true rfl, Nat.le_of_ble_eq_true rfl⟩) (fun r_2 hr_2 => ?_)
  subst hr_2
  refine mg_ild hx hb hE hP 1 (yl_n hA (by decide)) rfl (40 * (tn b) + 8 + 4 * (nc (tn b) - 1)) (by omega) rfl (by decide) dX8_gains_35 ?_
  refine lv_iadd hx hb dX8_gains_36 ?_
  refine mg_ild hx hb hE hP 3 (yl_n hA (by decide)) rfl (5 * (tn a) + (ld (tn b) (nc (tn b) - 1))) (by have := (hF.l kb_lt (nc (tn b) - 1) (by omega)).2; omega) (mi_add (mi_mul rfl (ik_eq ka)) ((hF.l kb_lt (nc (tn b) - 1) (by omega)).1)) (by decide) dX8_gains_37 ?_
  refine lv_isub hx hb dX8_gains_38 ?_
  exact W.iret (v := (σ 3 (5 * (tn a) + (ld (tn a) (nc (tn a) - 1))) - σ 3 (5 * (tn a) + (ld (tn b) (nc (tn b) - 1))))) hx hb hr (fun t ht hW => ⟨_, rfl, rfl, ht⟩) (fun q hq => by cases hq) dX8_gains_39
set_option maxHeartbeats 4000000 in
set_option maxRecDepth 100000 in
theorem mt_X8_saved (l : Launch) (D : va_G) (dA : Nat → ClassId) (st : Nat) (hst : st = 1 ∨ st = 2) (ad : Nat → Nat) (N : Nat) (hA : yA ad N) (σ : mMem) (a b c : Int32) (np : Nat) (nc : Nat → Nat) (ld : Nat → Nat → Nat) (hF : yFk σ 1 np nc ld) (ka : ik a np) (kb : ik b np) (kc : c < 0 ∨ ik c np) (na : 0 < nc (tn a)) (nb : 0 < nc (tn b)) (nc0 : ik c np → 0 < nc (tn c)) : Met l yX8_saved (ws_ yX8_saved cX8_saved 8 (some .int)) ({ frames := 2, cells := 0, slots := 0, locals := 43 }) (va_Pc [.ref (ad 0), .int a, .int b, .int c] (mPre D dA (shM st) ad N σ)) (vp_Si (fun r : Int32 => r = svM σ nc ld (tn a) (tn b) c)) 0 0 (fun _ => False) := by
  refine Met.ofW (cc := cX8_saved) (maxL := 8) (ret := (some .int)) (by decide) rfl ?_
  intro pp ee ss mm args below meth cd s₁ B hml hv
  obtain ⟨rfl, hP, hE⟩ := hv
  have hx := B.exec
  have hb := B.bytes
  have hr := B.returns
  have hts := atoms_spec (ws := ws_ yX8_saved cX8_saved 8 (some .int)) B.pre
  have hts : ∀ w ∈ lw_all, w.before _ ss = true := fun w h => hts w (List.mem_cons_of_mem _ h)
  have hown : ss.vm.findClass RX8 = some mm.cls := findClass_of_methodNamed B.named
  have hlocks := B.notSynchronized
  have hNN := hA.1
  have hn5 := hF.n5
  have ka_lt := ik_lt ka
  have ka_m := hF.m ka_lt
  have ka_8 := hF.m8 ka_lt
  have kb_lt := ik_lt kb
  have kb_m := hF.m kb_lt
  have kb_8 := hF.m8 kb_lt
  have hl := lv_entry ([.ref (ad 0), .int a, .int b, .int c]) (n := 8) (Nat.le_of_ble_eq_true rfl)
  rw [lg_entry_eq]
  generalize (lg_sl ([.ref (ad 0), .int a, .int b, .int c]) ++ List.replicate (8 - (lg_sl ([.ref (ad 0), .int a, .int b, .int c])).length) Slot.unset).toArray = ls at hl ⊢
  have hl : lv_has ls 8 [(0, .ref (ad 0)), (1, .int a), (2, .int b), (3, .int c)] := hl
  refine lv_iload_n hx hb dX8_saved_0 rfl (lv_at hl 3 rfl) ?_
  refine lv_if_ge (tgt := 8) hx hb dX8_saved_1 (by decide) (fun c_1 => ?_) (fun c_1 => ?_)
  · skip
    have kk : ik c np := kc.resolve_left (Int32.not_lt.mpr c_1)
    have kk_lt := ik_lt kk
    have kk_m := hF.m kk_lt
    have kk_8 := hF.m8 kk_lt
    have nck := nc0 kk
    refine lv_iload_n hx hb dX8_saved_8 rfl (lv_at hl 3 rfl) ?_
    refine lv_istore (lv' := [(4, .int c), (0, .ref (ad 0)), (1, .int a), (2, .int b), (3, .int c)]) hx hb dX8_saved_9 hl (by decide) rfl (fun ls hl => ?_)
    refine lv_aload_n hx hb dX8_saved_11 rfl (lv_at hl 1 rfl) ?_
    refine lv_iload_n hx hb dX8_saved_12 rfl (lv_at hl 3 rfl) ?_
    refine lv_iload_n hx hb dX8_saved_13 rfl (lv_at hl 2 rfl) ?_
    refine vp_callSi (W.runV (As := [.int b, .int a]) (rest := []) ⟨hx, hb, hml, hown, hts⟩ (mt_X8_gains l D dA st hst ad N hA σ b a np nc ld hF kb ka nb na) (cwV 2 hts (lw_V q990 q992 qs34 q55 q993) rfl rfl rfl (by decide +kernel) ⟨Nat.le_of_ble_eq_true rfl, Nat.le_of_ble_eq_true rfl⟩) ⟨mPre.blind, m_recv hE hP 0 (yl_n hA (by decide)) rfl rfl, mPre.at hE hP⟩ rfl rfl hl.1 rfl (lv_room (Nat.le_of_ble_eq_true rfl)) dX8_saved_14 ⟨Nat.le_of_ble_eq_true rfl, Nat.le_of_ble_eq_true rfl⟩) (fun r_2 hr_2 => ?_)
    subst hr_2
    refine lv_istore (lv' := [(5, .int (gns σ nc ld (tn b) (tn a))), (4, .int c), (0, .ref (ad 0)), (1, .int a), (2, .int b), (3, .int c)]) hx hb dX8_saved_17 hl (by decide) rfl (fun ls hl => ?_)
    refine lv_iload_n hx hb dX8_saved_19 rfl (lv_at hl 5 rfl) ?_
    refine lv_if_ge (tgt := 27) hx hb dX8_saved_20 (by decide) (fun c_3 => ?_) (fun c_3 => ?_)
    · have nc_3 : 0 ≤ tn c := mi_le rfl (ik_eq kk) (by omega) (by omega) c_3
      refine lv_aload_n hx hb dX8_saved_27 rfl (lv_at hl 2 rfl) ?_
      refine lv_iload_n hx hb dX8_saved_28 rfl (lv_at hl 5 rfl) ?_
      refine lv_iload_n hx hb dX8_saved_29 rfl (lv_at hl 4 rfl) ?_
      refine vp_callSi (W.runV (As := [.int c, .int b]) (rest := []) ⟨hx, hb, hml, hown, hts⟩ (mt_X8_gains l D dA st hst ad N hA σ c b np nc ld hF kk kb nck nb) (cwV 2 hts (lw_V q990 q992 qs34 q55 q993) rfl rfl rfl (by decide +kernel) ⟨Nat.le_of_ble_eq_true rfl, Nat.le_of_ble_eq_true rfl⟩) ⟨mPre.blind, m_recv hE hP 0 (yl_n hA (by decide)) rfl rfl, mPre.at hE hP⟩ rfl rfl hl.1 rfl (lv_room (Nat.le_of_ble_eq_true rfl)) dX8_saved_30 ⟨Nat.le_of_ble_eq_true rfl, Nat.le_of_ble_eq_true rfl⟩) (fun r_4 hr_4 => ?_)
      subst hr_4
      refine lv_istore (lv' := [(6, .int (gns σ nc ld (tn c) (tn b))), (5, .int (gns σ nc ld (tn b) (tn a))), (4, .int c), (0, .ref (ad 0)), (1, .int a), (2, .int b), (3, .int c)]) hx hb dX8_saved_33 hl (by decide) rfl (fun ls hl => ?_)
      refine lv_aload_n hx hb dX8_saved_35 rfl (lv_at hl 3 rfl) ?_
      refine lv_iload_n hx hb dX8_saved_36 rfl (lv_at hl 4 rfl) ?_
      refine lv_iload hx hb dX8_saved_37 (lv_at hl 2 rfl) ?_
      refine vp_callSi (W.runV (As := [.int a, .int c]) (rest := []) ⟨hx, hb, hml, hown, hts⟩ (mt_X8_gains l D dA st hst ad N hA σ a c np nc ld hF ka kk na nck) (cwV 2 hts (lw_V q990 q992 qs34 q55 q993) rfl rfl rfl (by decide +kernel) ⟨Nat.le_of_ble_eq_true rfl, Nat.le_of_ble_eq_true rfl⟩) ⟨mPre.blind, m_recv hE hP 0 (yl_n hA (by decide)) rfl rfl, mPre.at hE hP⟩ rfl rfl hl.1 rfl (lv_room (Nat.le_of_ble_eq_true rfl)) dX8_saved_39 ⟨Nat.le_of_ble_eq_true rfl, Nat.le_of_ble_eq_true rfl⟩) (fun r_5 hr_5 => ?_)
      subst hr_5
      refine lv_istore (lv' := [(7, .int (gns σ nc ld (tn a) (tn c))), (6, .int (gns σ nc ld (tn c) (tn b))), (5, .int (gns σ nc ld (tn b) (tn a))), (4, .int c), (0, .ref (ad 0)), (1, .int a), (2, .int b), (3, .int c)]) hx hb dX8_saved_42 hl (by decide) rfl (fun ls hl => ?_)
      refine lv_iload hx hb dX8_saved_44 (lv_at hl 2 rfl) ?_
      refine lv_iconst (v := 1) hx hb dX8_saved_46 (by decide) ?_
      refine lv_icmp_lt (tgt := 62) hx hb dX8_saved_47 (by decide) (fun c_6 => ?_) (fun c_6 => ?_)
      · skip
        refine lv_iconst (v := 0) hx hb dX8_saved_62 (by decide) ?_
        refine lv_goto (tgt := 82) hx hb dX8_saved_63 (by decide) ?_
        exact W.iret (v := 0) hx hb hr (fun t ht hW => ⟨_, rfl, by dsimp only; rw [svM, if_neg (Int32.not_lt.mpr c_1)]; simp [c_6], ht⟩) (fun q hq => by cases hq) dX8_saved_82
      · skip
        refine lv_iload hx hb dX8_saved_50 (lv_at hl 1 rfl) ?_
        refine lv_iconst (v := 1) hx hb dX8_saved_52 (by decide) ?_
        refine lv_icmp_lt (tgt := 62) hx hb dX8_saved_53 (by decide) (fun c_7 => ?_) (fun c_7 => ?_)
        · skip
          refine lv_iconst (v := 0) hx hb dX8_saved_62 (by decide) ?_
          refine lv_goto (tgt := 82) hx hb dX8_saved_63 (by decide) ?_
          exact W.iret (v := 0) hx hb hr (fun t ht hW => ⟨_, rfl, by dsimp only; rw [svM, if_neg (Int32.not_lt.mpr c_1)]; simp [c_6, c_7], ht⟩) (fun q hq => by cases hq) dX8_saved_82
        · skip
          refine lv_iload hx hb dX8_saved_56 (lv_at hl 0 rfl) ?_
          refine lv_iconst (v := 1) hx hb dX8_saved_58 (by decide) ?_
          refine lv_icmp_ge (tgt := 66) hx hb dX8_saved_59 (by decide) (fun c_8 => ?_) (fun c_8 => ?_)
          · skip
            refine lv_iload hx hb dX8_saved_66 (lv_at hl 2 rfl) ?_
            refine lv_iload hx hb dX8_saved_68 (lv_at hl 0 rfl) ?_
            refine lv_iadd hx hb dX8_saved_70 ?_
            refine lv_iload_n hx hb dX8_saved_71 rfl (lv_at hl 7 rfl) ?_
            refine lv_if_ge (tgt := 79) hx hb dX8_saved_72 (by decide) (fun c_9 => ?_) (fun c_9 => ?_)
            · have nc_9 : 0 ≤ tn c := mi_le rfl (ik_eq kk) (by omega) (by omega) c_9
              refine lv_iload hx hb dX8_saved_79 (lv_at hl 1 rfl) ?_
              refine lv_iadd hx hb dX8_saved_81 ?_
              exact W.iret (v := (((gns σ nc ld (tn b) (tn a)) + (gns σ nc ld (tn a) (tn c))) + (gns σ nc ld (tn c) (tn b)))) hx hb hr (fun t ht hW => ⟨_, rfl, by dsimp only; rw [svM, if_neg (Int32.not_lt.mpr c_1)]; simp [c_6, c_7, Int32.not_lt.mpr c_8], ht⟩) (fun q hq => by cases hq) dX8_saved_82
            · have nc_9 : tn c < 0 := mi_nle rfl (ik_eq kk) (by omega) (by omega) c_9
              exact absurd c_3 c_9
          · skip
            refine lv_iconst (v := 0) hx hb dX8_saved_62 (by decide) ?_
            refine lv_goto (tgt := 82) hx hb dX8_saved_63 (by decide) ?_
            exact W.iret (v := 0) hx hb hr (fun t ht hW => ⟨_, rfl, by dsimp only; rw [svM, if_neg (Int32.not_lt.mpr c_1)]; simp [c_6, c_7, c_8], ht⟩) (fun q hq => by cases hq) dX8_saved_82
    · have nc_3 : tn c < 0 := mi_nle rfl (ik_eq kk) (by omega) (by omega) c_3
      exact absurd c_1 c_3
  · skip
    refine lv_iload_n hx hb dX8_saved_4 rfl (lv_at hl 2 rfl) ?_
    refine lv_goto (tgt := 9) hx hb dX8_saved_5 (by decide) ?_
    refine lv_istore (lv' := [(4, .int b), (0, .ref (ad 0)), (1, .int a), (2, .int b), (3, .int c)]) hx hb dX8_saved_9 hl (by decide) rfl (fun ls hl => ?_)
    refine lv_aload_n hx hb dX8_saved_11 rfl (lv_at hl 1 rfl) ?_
    refine lv_iload_n hx hb dX8_saved_12 rfl (lv_at hl 3 rfl) ?_
    refine lv_iload_n hx hb dX8_saved_13 rfl (lv_at hl 2 rfl) ?_
    refine vp_callSi (W.runV (As := [.int b, .int a]) (rest := []) ⟨hx, hb, hml, hown, hts⟩ (mt_X8_gains l D dA st hst ad N hA σ b a np nc ld hF kb ka nb na) (cwV 2 hts (lw_V q990 q992 qs34 q55 q993) rfl rfl rfl (by decide +kernel) ⟨Nat.le_of_ble_eq_true rfl, Nat.le_of_ble_eq_true rfl⟩) ⟨mPre.blind, m_recv hE hP 0 (yl_n hA (by decide)) rfl rfl, mPre.at hE hP⟩ rfl rfl hl.1 rfl (lv_room (Nat.le_of_ble_eq_true rfl)) dX8_saved_14 ⟨Nat.le_of_ble_eq_true rfl, Nat.le_of_ble_eq_true rfl⟩) (fun r_10 hr_10 => ?_)
    subst hr_10
    refine lv_istore (lv' := [(5, .int (gns σ nc ld (tn b) (tn a))), (4, .int b), (0, .ref (ad 0)), (1, .int a), (2, .int b), (3, .int c)]) hx hb dX8_saved_17 hl (by decide) rfl (fun ls hl => ?_)
    refine lv_iload_n hx hb dX8_saved_19 rfl (lv_at hl 5 rfl) ?_
    refine lv_if_ge (tgt := 27) hx hb dX8_saved_20 (by decide) (fun c_11 => ?_) (fun c_11 => ?_)
    · skip
      exact absurd c_11 c_1
    · skip
      refine lv_iconst (v := 1) hx hb dX8_saved_23 (by decide) ?_
      refine lv_goto (tgt := 33) hx hb dX8_saved_24 (by decide) ?_
      refine lv_istore (lv' := [(6, .int 1), (5, .int (gns σ nc ld (tn b) (tn a))), (4, .int b), (0, .ref (ad 0)), (1, .int a), (2, .int b), (3, .int c)]) hx hb dX8_saved_33 hl (by decide) rfl (fun ls hl => ?_)
      refine lv_aload_n hx hb dX8_saved_35 rfl (lv_at hl 3 rfl) ?_
      refine lv_iload_n hx hb dX8_saved_36 rfl (lv_at hl 4 rfl) ?_
      refine lv_iload hx hb dX8_saved_37 (lv_at hl 2 rfl) ?_
      refine vp_callSi (W.runV (As := [.int a, .int b]) (rest := []) ⟨hx, hb, hml, hown, hts⟩ (mt_X8_gains l D dA st hst ad N hA σ a b np nc ld hF ka kb na nb) (cwV 2 hts (lw_V q990 q992 qs34 q55 q993) rfl rfl rfl (by decide +kernel) ⟨Nat.le_of_ble_eq_true rfl, Nat.le_of_ble_eq_true rfl⟩) ⟨mPre.blind, m_recv hE hP 0 (yl_n hA (by decide)) rfl rfl, mPre.at hE hP⟩ rfl rfl hl.1 rfl (lv_room (Nat.le_of_ble_eq_true rfl)) dX8_saved_39 ⟨Nat.le_of_ble_eq_true rfl, Nat.le_of_ble_eq_true rfl⟩) (fun r_12 hr_12 => ?_)
      subst hr_12
      refine lv_istore (lv' := [(7, .int (gns σ nc ld (tn a) (tn b))), (6, .int 1), (5, .int (gns σ nc ld (tn b) (tn a))), (4, .int b), (0, .ref (ad 0)), (1, .int a), (2, .int b), (3, .int c)]) hx hb dX8_saved_42 hl (by decide) rfl (fun ls hl => ?_)
      refine lv_iload hx hb dX8_saved_44 (lv_at hl 2 rfl) ?_
      refine lv_iconst (v := 1) hx hb dX8_saved_46 (by decide) ?_
      refine lv_icmp_lt (tgt := 62) hx hb dX8_saved_47 (by decide) (fun c_13 => ?_) (fun c_13 => ?_)
      · skip
        refine lv_iconst (v := 0) hx hb dX8_saved_62 (by decide) ?_
        refine lv_goto (tgt := 82) hx hb dX8_saved_63 (by decide) ?_
        exact W.iret (v := 0) hx hb hr (fun t ht hW => ⟨_, rfl, by dsimp only; rw [svM, if_pos (Int32.not_le.mp c_1)]; simp [c_13], ht⟩) (fun q hq => by cases hq) dX8_saved_82
      · skip
        refine lv_iload hx hb dX8_saved_50 (lv_at hl 1 rfl) ?_
        refine lv_iconst (v := 1) hx hb dX8_saved_52 (by decide) ?_
        refine lv_icmp_lt (tgt := 62) hx hb dX8_saved_53 (by decide) (fun c_14 => ?_) (fun c_14 => ?_)
        · skip
          exact absurd c_14 (by decide)
        · skip
          refine lv_iload hx hb dX8_saved_56 (lv_at hl 0 rfl) ?_
          refine lv_iconst (v := 1) hx hb dX8_saved_58 (by decide) ?_
          refine lv_icmp_ge (tgt := 66) hx hb dX8_saved_59 (by decide) (fun c_15 => ?_) (fun c_15 => ?_)
          · skip
            refine lv_iload hx hb dX8_saved_66 (lv_at hl 2 rfl) ?_
            refine lv_iload hx hb dX8_saved_68 (lv_at hl 0 rfl) ?_
            refine lv_iadd hx hb dX8_saved_70 ?_
            refine lv_iload_n hx hb dX8_saved_71 rfl (lv_at hl 7 rfl) ?_
            refine lv_if_ge (tgt := 79) hx hb dX8_saved_72 (by decide) (fun c_16 => ?_) (fun c_16 => ?_)
            · skip
              exact absurd c_16 c_11
            · skip
              refine lv_iconst (v := 0) hx hb dX8_saved_75 (by decide) ?_
              refine lv_goto (tgt := 81) hx hb dX8_saved_76 (by decide) ?_
              refine lv_iadd hx hb dX8_saved_81 ?_
              exact W.iret (v := (((gns σ nc ld (tn b) (tn a)) + (gns σ nc ld (tn a) (tn b))) + 0)) hx hb hr (fun t ht hW => ⟨_, rfl, by dsimp only; rw [svM, if_pos (Int32.not_le.mp c_1)]; simp [c_13, c_14, Int32.not_lt.mpr c_15], ht⟩) (fun q hq => by cases hq) dX8_saved_82
          · skip
            refine lv_iconst (v := 0) hx hb dX8_saved_62 (by decide) ?_
            refine lv_goto (tgt := 82) hx hb dX8_saved_63 (by decide) ?_
            exact W.iret (v := 0) hx hb hr (fun t ht hW => ⟨_, rfl, by dsimp only; rw [svM, if_pos (Int32.not_le.mp c_1)]; simp [c_13, c_14, c_15], ht⟩) (fun q hq => by cases hq) dX8_saved_82
set_option maxHeartbeats 4000000 in
set_option maxRecDepth 100000 in
theorem mt_X8_owed (l : Launch) (D : va_G) (dA : Nat → ClassId) (st : Nat) (hst : st = 1 ∨ st = 2) (ad : Nat → Nat) (N : Nat) (hA : yA ad N) (σ : mMem) (g : Int32) (np : Nat) (nc : Nat → Nat) (ld : Nat → Nat → Nat) (hF : yFk σ 1 np nc ld) : Met l yX8_owed (ws_ yX8_owed cX8_owed 6 (some .int)) ({ frames := 2, cells := 0, slots := 0, locals := 45 }) (va_Pc [.ref (ad 0), .int g] (mPre D dA (shM st) ad N σ)) (vp_Si (fun r : Int32 => r = (if ik g 5 then (if omT σ nc g np ≤ 9999999 then omT σ nc g np else 9999999) else -1))) 0 0 (fun _ => False) := by
  refine Met.ofW (cc := cX8_owed) (maxL := 6) (ret := (some .int)) (by decide) rfl ?_
  intro pp ee ss mm args below meth cd s₁ B hml hv
  obtain ⟨rfl, hP, hE⟩ := hv
  have hx := B.exec
  have hb := B.bytes
  have hr := B.returns
  have hts := atoms_spec (ws := ws_ yX8_owed cX8_owed 6 (some .int)) B.pre
  have hts : ∀ w ∈ lw_all, w.before _ ss = true := fun w h => hts w (List.mem_cons_of_mem _ h)
  have hown : ss.vm.findClass RX8 = some mm.cls := findClass_of_methodNamed B.named
  have hlocks := B.notSynchronized
  have hNN := hA.1
  have hn5 := hF.n5
  have h8 : ∀ p, p < np → nc p ≤ 8 := fun p hp => hF.m8 hp
  have hl := lv_entry ([.ref (ad 0), .int g]) (n := 6) (Nat.le_of_ble_eq_true rfl)
  rw [lg_entry_eq]
  generalize (lg_sl ([.ref (ad 0), .int g]) ++ List.replicate (6 - (lg_sl ([.ref (ad 0), .int g])).length) Slot.unset).toArray = ls at hl ⊢
  have hl : lv_has ls 6 [(0, .ref (ad 0)), (1, .int g)] := hl
  refine lv_iload_n hx hb dX8_owed_0 rfl (lv_at hl 1 rfl) ?_
  refine vp_callSi (W.runS (As := [.int g]) (rest := []) ⟨hx, hb, hml, hown, hts⟩ (mt_X8_isLender l g) (va_cwS 1 hts (lw_S q886 q887 q55 q888) rfl rfl rfl (by decide +kernel) ⟨Nat.le_of_ble_eq_true rfl, Nat.le_of_ble_eq_true rfl⟩) ⟨fun _ _ _ _ h => h, fun _ _ _ => ⟨rfl, trivial⟩⟩ rfl rfl hl.1 rfl (lv_room (Nat.le_of_ble_eq_true rfl)) dX8_owed_1 ⟨Nat.le_of_ble_eq_true rfl, Nat.le_of_ble_eq_true rfl⟩) (fun r_1 hr_1 => ?_)
  subst hr_1
  refine lv_if_ne (tgt := 9) hx hb dX8_owed_4 (by decide) (fun c_2 => ?_) (fun c_2 => ?_)
  · have c_2 : ik g 5 := bi_t c_2
    have c_2_lt := ik_lt c_2
    refine lv_iconst (v := 0) hx hb dX8_owed_9 (by decide) ?_
    refine lv_istore_n (lv' := [(2, .int 0), (0, .ref (ad 0)), (1, .int g)]) hx hb dX8_owed_10 rfl hl (by decide) rfl (fun ls hl => ?_)
    refine lv_iconst (v := 0) hx hb dX8_owed_11 (by decide) ?_
    refine lv_istore_n (lv' := [(3, .int 0), (2, .int 0), (0, .ref (ad 0)), (1, .int g)]) hx hb dX8_owed_12 rfl hl (by decide) rfl (fun ls hl => ?_)
    have lp13 : ∀ (fu : Nat) (p : Nat) (S2 : Int32) (_ : p ≤ np) (_ : S2 = omT σ nc g p) (_ : np - p < fu) (ls : Array Slot) (_ : lv_has ls 6 [(3, .int (nI p)), (2, .int S2), (0, .ref (ad 0)), (1, .int g)]), W pp l ee (headSpec (ws_ yX8_owed cX8_owed 6 (some .int)) ({ frames := 2, cells := 0, slots := 0, locals := 45 })).room ss mm ([.ref (ad 0), .int g] : List Value).toArray below meth cd ss.heap [] 0 0 (MQ below (vp_Si (fun r : Int32 => r = (if ik g 5 then (if omT σ nc g np ≤ 9999999 then omT σ nc g np else 9999999) else -1))) ([.ref (ad 0), .int g] : List Value).toArray ss 0 0 (fun _ => False)) (F0 mm 13 ls []) := by
      intro fu
      induction fu with
      | zero => intro p S2 hp hS2 hfu; exact absurd hfu (Nat.not_lt_zero _)
      | succ fu ih13 =>
        intro p S2 hp hS2 hfu ls hl
        refine lv_iload_n hx hb dX8_owed_13 rfl (lv_at hl 0 rfl) ?_
        refine lv_aload_n hx hb dX8_owed_14 rfl (lv_at hl 2 rfl) ?_
        refine mg_get hx hb hts in_X8 hown hE hP 0 (yl_n hA (by decide)) rfl rfl 0 rfl (by decide) (hts _ q764) (fun _ h9 => h9) dX8_owed_15 ?_
        refine lv_icmp_ge (tgt := 93) hx hb dX8_owed_18 (by decide) (fun c_3 => ?_) (fun c_3 => ?_)
        · have nc_3 : np ≤ p := mi_le hF.n rfl (by omega) (by omega) c_3
          refine lv_iload_n hx hb dX8_owed_93 rfl (lv_at hl 1 rfl) ?_
          refine lv_ldc hx hb hown (hts _ q872) dX8_owed_94 ?_
          refine lv_icmp_le (tgt := 104) hx hb dX8_owed_96 (by decide) (fun c_4 => ?_) (fun c_4 => ?_)
          · skip
            refine lv_iload_n hx hb dX8_owed_104 rfl (lv_at hl 1 rfl) ?_
            exact W.iret (v := S2) hx hb hr (fun t ht hW => ⟨_, rfl, by dsimp only; rw [if_pos c_2, show np = p by omega, ← hS2, if_pos c_4], ht⟩) (fun q hq => by cases hq) dX8_owed_105
          · skip
            refine lv_ldc hx hb hown (hts _ q872) dX8_owed_99 ?_
            refine lv_goto (tgt := 105) hx hb dX8_owed_101 (by decide) ?_
            exact W.iret (v := 9999999) hx hb hr (fun t ht hW => ⟨_, rfl, by dsimp only; rw [if_pos c_2, show np = p by omega, ← hS2, if_neg c_4], ht⟩) (fun q hq => by cases hq) dX8_owed_105
        · have nc_3 : p < np := mi_nle hF.n rfl (by omega) (by omega) c_3
          have h8p := h8 p (by omega)
          refine lv_iconst (v := 0) hx hb dX8_owed_21 (by decide) ?_
          refine lv_istore (lv' := [(4, .int 0), (3, .int (nI p)), (2, .int S2), (0, .ref (ad 0)), (1, .int g)]) hx hb dX8_owed_22 hl (by decide) rfl (fun ls hl => ?_)
          have lp24 : ∀ (fu : Nat) (c : Nat) (S : Int32) (_ : c ≤ nc p) (_ : S = omI (fun k => σ 1 (40 * p + 8 + k)) g (omT σ nc g p) c) (_ : nc p - c < fu) (ls : Array Slot) (_ : lv_has ls 6 [(4, .int (nI c)), (3, .int (nI p)), (2, .int S), (0, .ref (ad 0)), (1, .int g)]), W pp l ee (headSpec (ws_ yX8_owed cX8_owed 6 (some .int)) ({ frames := 2, cells := 0, slots := 0, locals := 45 })).room ss mm ([.ref (ad 0), .int g] : List Value).toArray below meth cd ss.heap [] 0 0 (MQ below (vp_Si (fun r : Int32 => r = (if ik g 5 then (if omT σ nc g np ≤ 9999999 then omT σ nc g np else 9999999) else -1))) ([.ref (ad 0), .int g] : List Value).toArray ss 0 0 (fun _ => False)) (F0 mm 24 ls []) := by
            intro fu
            induction fu with
            | zero => intro c S hc hS0 hfu; exact absurd hfu (Nat.not_lt_zero _)
            | succ fu ih24 =>
              intro c S hc hS0 hfu ls hl
              refine lv_iload hx hb dX8_owed_24 (lv_at hl 0 rfl) ?_
              refine lv_aload_n hx hb dX8_owed_26 rfl (lv_at hl 3 rfl) ?_
              refine mg_ref hx hb hts in_X8 hown hE hP 0 (yl_n hA (by decide)) rfl rfl 1 rfl (by decide) (hts _ q765) (fun _ h9 => h9) dX8_owed_27 ?_
              refine lv_bipush (v := 40) hx hb dX8_owed_30 (by decide) ?_
              refine lv_iload_n hx hb dX8_owed_32 rfl (lv_at hl 1 rfl) ?_
              refine lv_imul hx hb dX8_owed_33 ?_
              refine lv_iconst (v := 3) hx hb dX8_owed_34 (by decide) ?_
              refine lv_iadd hx hb dX8_owed_35 ?_
              refine mg_ild hx hb hE hP 1 (yl_n hA (by decide)) rfl (40 * p + 3) (by omega) (mi_add (mi_mul rfl rfl) rfl) (by decide) dX8_owed_36 ?_
              refine lv_icmp_ge (tgt := 87) hx hb dX8_owed_37 (by decide) (fun c_5 => ?_) (fun c_5 => ?_)
              · have nc_5 : nc p ≤ c := mi_le (hF.m (by omega)) rfl (by omega) (by omega) c_5
                refine lv_iinc (v := (nI (p + 1))) (lv' := [(3, .int (nI (p + 1))), (4, .int (nI c)), (2, .int S), (0, .ref (ad 0)), (1, .int g)]) hx hb dX8_owed_87 hl (k := 1) rfl (mi_add rfl rfl) (by decide) rfl (fun ls hl => ?_)
                refine lv_goto (tgt := 13) hx hb dX8_owed_90 (by decide) ?_
                exact ih13  (p + 1) S (by omega) (by rw [hS0, show c = nc p by omega]; rfl) (by omega) ls (lv_sub hl [0, 2, 3, 4] rfl)
              · have nc_5 : c < nc p := mi_nle (hF.m (by omega)) rfl (by omega) (by omega) c_5
                refine lv_bipush (v := 40) hx hb dX8_owed_40 (by decide) ?_
                refine lv_iload_n hx hb dX8_owed_42 rfl (lv_at hl 1 rfl) ?_
                refine lv_imul hx hb dX8_owed_43 ?_
                refine lv_bipush (v := 8) hx hb dX8_owed_44 (by decide) ?_
                refine lv_iadd hx hb dX8_owed_46 ?_
                refine lv_iconst (v := 4) hx hb dX8_owed_47 (by decide) ?_
                refine lv_iload hx hb dX8_owed_48 (lv_at hl 0 rfl) ?_
                refine lv_imul hx hb dX8_owed_50 ?_
                refine lv_iadd hx hb dX8_owed_51 ?_
                refine lv_rwi (mi_add (mi_add (mi_mul rfl rfl) rfl) (mi_mul rfl rfl)) ?_
                refine lv_istore (lv' := [(5, .int (nI (40 * p + 8 + 4 * c))), (4, .int (nI c)), (3, .int (nI p)), (2, .int S), (0, .ref (ad 0)), (1, .int g)]) hx hb dX8_owed_52 hl (by decide) rfl (fun ls hl => ?_)
                refine lv_iload_n hx hb dX8_owed_54 rfl (lv_at hl 3 rfl) ?_
                refine lv_aload_n hx hb dX8_owed_55 rfl (lv_at hl 4 rfl) ?_
                refine mg_ref hx hb hts in_X8 hown hE hP 0 (yl_n hA (by decide)) rfl rfl 1 rfl (by decide) (hts _ q765) (fun _ h9 => h9) dX8_owed_56 ?_
                refine lv_iload hx hb dX8_owed_59 (lv_at hl 0 rfl) ?_
                refine mg_ild hx hb hE hP 1 (yl_n hA (by decide)) rfl (40 * p + 8 + 4 * c) (by omega) rfl (by decide) dX8_owed_61 ?_
                refine lv_iload_n hx hb dX8_owed_62 rfl (lv_at hl 5 rfl) ?_
                refine lv_icmp_ne (tgt := 78) hx hb dX8_owed_63 (by decide) (fun c_6 => ?_) (fun c_6 => ?_)
                · skip
                  refine lv_iconst (v := 0) hx hb dX8_owed_78 (by decide) ?_
                  refine lv_iadd hx hb dX8_owed_79 ?_
                  refine lv_istore_n (lv' := [(2, .int (S + 0)), (5, .int (nI (40 * p + 8 + 4 * c))), (4, .int (nI c)), (3, .int (nI p)), (0, .ref (ad 0)), (1, .int g)]) hx hb dX8_owed_80 rfl hl (by decide) rfl (fun ls hl => ?_)
                  refine lv_iinc (v := (nI (c + 1))) (lv' := [(4, .int (nI (c + 1))), (2, .int (S + 0)), (5, .int (nI (40 * p + 8 + 4 * c))), (3, .int (nI p)), (0, .ref (ad 0)), (1, .int g)]) hx hb dX8_owed_81 hl (k := 2) rfl (mi_add rfl rfl) (by decide) rfl (fun ls hl => ?_)
                  refine lv_goto (tgt := 24) hx hb dX8_owed_84 (by decide) ?_
                  exact ih24  (c + 1) (S + 0) (by omega) (by rw [hS0, omI, if_neg c_6] <;> rfl) (by omega) ls (lv_sub hl [0, 3, 1, 4, 5] rfl)
                · skip
                  refine lv_aload_n hx hb dX8_owed_66 rfl (lv_at hl 4 rfl) ?_
                  refine mg_ref hx hb hts in_X8 hown hE hP 0 (yl_n hA (by decide)) rfl rfl 1 rfl (by decide) (hts _ q765) (fun _ h9 => h9) dX8_owed_67 ?_
                  refine lv_iload hx hb dX8_owed_70 (lv_at hl 0 rfl) ?_
                  refine lv_iconst (v := 1) hx hb dX8_owed_72 (by decide) ?_
                  refine lv_iadd hx hb dX8_owed_73 ?_
                  refine mg_ild hx hb hE hP 1 (yl_n hA (by decide)) rfl (40 * p + 8 + 4 * c + 1) (by omega) (mi_add rfl rfl) (by decide) dX8_owed_74 ?_
                  refine lv_goto (tgt := 79) hx hb dX8_owed_75 (by decide) ?_
                  refine lv_iadd hx hb dX8_owed_79 ?_
                  refine lv_istore_n (lv' := [(2, .int (S + σ 1 (40 * p + 8 + 4 * c + 1))), (5, .int (nI (40 * p + 8 + 4 * c))), (4, .int (nI c)), (3, .int (nI p)), (0, .ref (ad 0)), (1, .int g)]) hx hb dX8_owed_80 rfl hl (by decide) rfl (fun ls hl => ?_)
                  refine lv_iinc (v := (nI (c + 1))) (lv' := [(4, .int (nI (c + 1))), (2, .int (S + σ 1 (40 * p + 8 + 4 * c + 1))), (5, .int (nI (40 * p + 8 + 4 * c))), (3, .int (nI p)), (0, .ref (ad 0)), (1, .int g)]) hx hb dX8_owed_81 hl (k := 2) rfl (mi_add rfl rfl) (by decide) rfl (fun ls hl => ?_)
                  refine lv_goto (tgt := 24) hx hb dX8_owed_84 (by decide) ?_
                  exact ih24  (c + 1) (S + σ 1 (40 * p + 8 + 4 * c + 1)) (by omega) (by rw [hS0, omI, if_pos c_6] <;> rfl) (by omega) ls (lv_sub hl [0, 3, 1, 4, 5] rfl)
          exact lp24 (nc p - 0 + 1) 0 S2 (by omega) hS2 (by omega) ls (lv_sub hl [0, 1, 2, 3, 4] rfl)
    exact lp13 (np - 0 + 1) 0 0 (by omega) rfl (by omega) ls (lv_sub hl [0, 1, 2, 3] rfl)
  · have c_2 : ¬ (ik g 5) := bi_f c_2
    refine lv_iconst (v := (-1)) hx hb dX8_owed_7 (by decide) ?_
    exact W.iret (v := (-1)) hx hb hr (fun t ht hW => ⟨_, rfl, by dsimp only; rw [if_neg c_2], ht⟩) (fun q hq => by cases hq) dX8_owed_8
set_option maxHeartbeats 4000000 in
set_option maxRecDepth 100000 in
theorem mt_X8_bears (l : Launch) (D : va_G) (dA : Nat → ClassId) (st : Nat) (hst : st = 1 ∨ st = 2) (ad : Nat → Nat) (N : Nat) (hA : yA ad N) (σ : mMem) (p : Int32) (np : Nat) (nc : Nat → Nat) (ld : Nat → Nat → Nat) (hF : yFk σ 1 np nc ld) (dy : Nat) (hdy0 : σ 0 7 = nI dy) (hdy : dy < 360) : Met l yX8_bears (ws_ yX8_bears cX8_bears 3 (some .int)) ({ frames := 2, cells := 0, slots := 0, locals := 46 }) (va_Pc [.ref (ad 0), .int p] (mPre D dA (shM st) ad N σ)) (va_Qi (fun (r : Int32) (u : mMem × Nat) => (if ik p np then (r = brm σ (tn p) (nc (tn p)) dy (359 - dy) (dy + 1) ∧ u = (σ, 1)) else (r = -1 ∧ u = (σ, st)))) (mBM D dA ad N) (mAd ad N)) 0 0 (mAd ad N) := by
  refine Met.ofW (cc := cX8_bears) (maxL := 3) (ret := (some .int)) (by decide) rfl ?_
  intro pp ee ss mm args below meth cd s₁ B hml hv
  obtain ⟨rfl, hP, hE⟩ := hv
  have hx := B.exec
  have hb := B.bytes
  have hr := B.returns
  have hts := atoms_spec (ws := ws_ yX8_bears cX8_bears 3 (some .int)) B.pre
  have hts : ∀ w ∈ lw_all, w.before _ ss = true := fun w h => hts w (List.mem_cons_of_mem _ h)
  have hown : ss.vm.findClass RX8 = some mm.cls := findClass_of_methodNamed B.named
  have hlocks := B.notSynchronized
  have hD := hA.2.self
  have hS : va_S (mAd ad N) ss.heap ss.heap [] := va_S.rf
  have hNN := hA.1
  have hn5 := hF.n5
  have hl := lv_entry ([.ref (ad 0), .int p]) (n := 3) (Nat.le_of_ble_eq_true rfl)
  rw [lg_entry_eq]
  generalize (lg_sl ([.ref (ad 0), .int p]) ++ List.replicate (3 - (lg_sl ([.ref (ad 0), .int p])).length) Slot.unset).toArray = ls at hl ⊢
  have hl : lv_has ls 3 [(0, .ref (ad 0)), (1, .int p)] := hl
  refine lv_aload_n hx hb dX8_bears_0 rfl (lv_at hl 0 rfl) ?_
  refine lv_iload_n hx hb dX8_bears_1 rfl (lv_at hl 1 rfl) ?_
  refine vp_callSi (W.runV (As := [.int p]) (rest := []) ⟨hx, hb, hml, hown, hts⟩ (mt_X8_isOne l D dA st hst ad N hA σ p np hF.n hF.n5) (cwV 1 hts (lw_V q863 q865 qs20 q55 q866) rfl rfl rfl (by decide +kernel) ⟨Nat.le_of_ble_eq_true rfl, Nat.le_of_ble_eq_true rfl⟩) ⟨mPre.blind, m_recv hE hP 0 (yl_n hA (by decide)) rfl rfl, mPre.at hE hP⟩ rfl rfl hl.1 rfl (lv_room (Nat.le_of_ble_eq_true rfl)) dX8_bears_2 ⟨Nat.le_of_ble_eq_true rfl, Nat.le_of_ble_eq_true rfl⟩) (fun r_1 hr_1 => ?_)
  subst hr_1
  refine lv_if_ne (tgt := 10) hx hb dX8_bears_5 (by decide) (fun c_2 => ?_) (fun c_2 => ?_)
  · have c_2 : ik p np := bi_t c_2
    have c_2_lt := ik_lt c_2
    have c_2_m := hF.m c_2_lt
    have c_2_8 := hF.m8 c_2_lt
    refine lv_aload_n hx hb dX8_bears_10 rfl (lv_at hl 0 rfl) ?_
    refine lv_aload_n hx hb dX8_bears_11 rfl (lv_at hl 0 rfl) ?_
    refine mg_ref hx hb hts in_X8 hown hE hP 0 (yl_n hA (by decide)) rfl rfl 1 rfl (by decide) (hts _ q765) (fun _ h9 => h9) dX8_bears_12 ?_
    refine mg_state (j := 1) hx hb hts hown hE hD hP hS hA.1 (hts _ q767) dX8_bears_15 (fun H locs hP hS => ?_)
    refine lv_aload_n hx hb dX8_bears_18 rfl (lv_at hl 0 rfl) ?_
    refine mg_get hx hb hts in_X8 hown hE hP 0 (yl_n hA (by decide)) rfl rfl 7 rfl (by decide) (hts _ q771) (fun _ h9 => h9) dX8_bears_19 ?_
    refine lv_iconst (v := 1) hx hb dX8_bears_22 (by decide) ?_
    refine lv_iadd hx hb dX8_bears_23 ?_
    refine lv_rwi (mi_add hdy0 rfl) ?_
    refine lv_istore_n (lv' := [(2, .int (nI (dy + 1))), (0, .ref (ad 0)), (1, .int p)]) hx hb dX8_bears_24 rfl hl (by decide) rfl (fun ls hl => ?_)
    have lp25 : ∀ (fu : Nat) (d : Nat) (_ : d ≤ 360) (_ : dy < d) (_ : brm σ (tn p) (nc (tn p)) dy (359 - dy) (dy + 1) = brm σ (tn p) (nc (tn p)) dy (360 - d) d) (_ : 360 - d < fu) (ls : Array Slot) (_ : lv_has ls 3 [(2, .int (nI d)), (0, .ref (ad 0)), (1, .int p)]), W pp l ee (headSpec (ws_ yX8_bears cX8_bears 3 (some .int)) ({ frames := 2, cells := 0, slots := 0, locals := 46 })).room ss mm ([.ref (ad 0), .int p] : List Value).toArray below meth cd H locs 0 0 (MQ below (va_Qi (fun (r : Int32) (u : mMem × Nat) => (if ik p np then (r = brm σ (tn p) (nc (tn p)) dy (359 - dy) (dy + 1) ∧ u = (σ, 1)) else (r = -1 ∧ u = (σ, st)))) (mBM D dA ad N) (mAd ad N)) ([.ref (ad 0), .int p] : List Value).toArray ss 0 0 (mAd ad N)) (F0 mm 25 ls []) := by
      intro fu
      induction fu with
      | zero => intro d hd hd1 hbr hfu; exact absurd hfu (Nat.not_lt_zero _)
      | succ fu ih25 =>
        intro d hd hd1 hbr hfu ls hl
        refine lv_iload_n hx hb dX8_bears_25 rfl (lv_at hl 0 rfl) ?_
        refine lv_sipush (v := 360) hx hb dX8_bears_26 (by decide) ?_
        refine lv_icmp_ge (tgt := 54) hx hb dX8_bears_29 (by decide) (fun c_3 => ?_) (fun c_3 => ?_)
        · have nc_3 : 360 ≤ d := mi_le rfl rfl (by omega) (by omega) c_3
          refine lv_bipush (v := (-4)) hx hb dX8_bears_54 (by decide) ?_
          exact W.iret (v := (-4)) hx hb hr (fun t ht hW => ⟨⟨_, (σ, 1), rfl, by dsimp only; rw [if_pos c_2, hbr, show 360 - d = 0 by omega]; exact ⟨rfl, rfl⟩, mBM.of ht hP⟩, hS.F ht⟩) hS.2.2 dX8_bears_56
        · have nc_3 : d < 360 := mi_nle rfl rfl (by omega) (by omega) c_3
          refine lv_aload_n hx hb dX8_bears_32 rfl (lv_at hl 1 rfl) ?_
          refine lv_iload_n hx hb dX8_bears_33 rfl (lv_at hl 2 rfl) ?_
          refine lv_iload_n hx hb dX8_bears_34 rfl (lv_at hl 0 rfl) ?_
          refine vp_callSi (W.runV (As := [.int p, .int (nI d)]) (rest := []) ⟨hx, hb, hml, hown, hts⟩ (mt_X8_isTooHot l D dA 1 (Or.inl rfl) ad N hA σ p (tn p) (ik_eq c_2) (by omega) (nI d) d rfl (by omega) (nc (tn p)) c_2_m (by omega)) (cwV 2 hts (lw_V q953 q955 qs29 q55 q956) rfl rfl rfl (by decide +kernel) ⟨Nat.le_of_ble_eq_true rfl, Nat.le_of_ble_eq_true rfl⟩) ⟨mPre.blind, m_recv hE hP 0 (yl_n hA (by decide)) rfl rfl, mPre.at hE hP⟩ rfl rfl hl.1 rfl (lv_room (Nat.le_of_ble_eq_true rfl)) dX8_bears_35 ⟨Nat.le_of_ble_eq_true rfl, Nat.le_of_ble_eq_true rfl⟩) (fun r_4 hr_4 => ?_)
          subst hr_4
          refine lv_if_eq (tgt := 48) hx hb dX8_bears_38 (by decide) (fun c_5 => ?_) (fun c_5 => ?_)
          · have c_5 : ¬ (mxm (σ 1 (40 * (tn p) + 2) - σ 4 (d / 30)) < thk (fun k => σ 1 (40 * (tn p) + 8 + k)) (nc (tn p))) := bi_f c_5
            refine lv_iinc (v := (nI (d + 1))) (lv' := [(2, .int (nI (d + 1))), (0, .ref (ad 0)), (1, .int p)]) hx hb dX8_bears_48 hl (k := 0) rfl (mi_add rfl rfl) (by decide) rfl (fun ls hl => ?_)
            refine lv_goto (tgt := 25) hx hb dX8_bears_51 (by decide) ?_
            exact ih25  (d + 1) (by omega) (by omega) (by rw [hbr, show 360 - d = (360 - (d + 1)) + 1 by omega, brm, if_neg c_5]) (by omega) ls (lv_sub hl [0, 1, 2] rfl)
          · have c_5 : mxm (σ 1 (40 * (tn p) + 2) - σ 4 (d / 30)) < thk (fun k => σ 1 (40 * (tn p) + 8 + k)) (nc (tn p)) := bi_t c_5
            refine lv_iload_n hx hb dX8_bears_41 rfl (lv_at hl 0 rfl) ?_
            refine lv_aload_n hx hb dX8_bears_42 rfl (lv_at hl 1 rfl) ?_
            refine mg_get hx hb hts in_X8 hown hE hP 0 (yl_n hA (by decide)) rfl rfl 7 rfl (by decide) (hts _ q771) (fun _ h9 => h9) dX8_bears_43 ?_
            refine lv_isub hx hb dX8_bears_46 ?_
            exact W.iret (v := ((nI d) - σ 0 7)) hx hb hr (fun t ht hW => ⟨⟨_, (σ, 1), rfl, by dsimp only; rw [if_pos c_2, hbr, show 360 - d = (359 - d) + 1 by omega, brm, if_pos c_5]; exact ⟨mi_sub rfl hdy0 (by omega), rfl⟩, mBM.of ht hP⟩, hS.F ht⟩) hS.2.2 dX8_bears_47
    exact lp25 (360 - dy + 1 + 1) (dy + 1) (by omega) (by omega) (by rw [show 360 - (dy + 1) = 359 - dy by omega]) (by omega) ls (lv_sub hl [0, 1, 2] rfl)
  · have c_2 : ¬ (ik p np) := bi_f c_2
    refine lv_iconst (v := (-1)) hx hb dX8_bears_8 (by decide) ?_
    exact W.iret (v := (-1)) hx hb hr (fun t ht hW => ⟨⟨_, (σ, st), rfl, by dsimp only; rw [if_neg c_2]; exact ⟨rfl, rfl⟩, mBM.of ht hP⟩, hS.F ht⟩) hS.2.2 dX8_bears_9
set_option maxHeartbeats 4000000 in
set_option maxRecDepth 100000 in
theorem mt_X8_ware (l : Launch) (D : va_G) (dA : Nat → ClassId) (st : Nat) (hst : st = 1 ∨ st = 2) (ad : Nat → Nat) (N : Nat) (hA : yA ad N) (σ : mMem) (a d : Int32) (nw : Nat) (hnw : σ 0 9 = nI nw) (hnw8 : nw ≤ 8) : Met l yX8_ware (ws_ yX8_ware cX8_ware 3 (some .int)) ({ frames := 1, cells := 0, slots := 0, locals := 25 }) (va_Pc [.ref (ad 0), .int a, .int d] (mPre D dA (shM st) ad N σ)) (va_Qi (fun (r : Int32) (u : mMem) => (if iv a 1 9999 then (if iv d 1 9 then (if nw = 8 then (r = -3 ∧ u = σ) else (r = nI nw ∧ u = mup (mup (mup σ 6 nw a) 7 nw d) 0 9 (nI (nw + 1)))) else (r = -1 ∧ u = σ)) else (r = -1 ∧ u = σ))) (mB D dA (shM st) ad N) (mAd ad N)) 0 0 (mAd ad N) := by
  refine Met.ofW (cc := cX8_ware) (maxL := 3) (ret := (some .int)) (by decide) rfl ?_
  intro pp ee ss mm args below meth cd s₁ B hml hv
  obtain ⟨rfl, hP, hE⟩ := hv
  have hx := B.exec
  have hb := B.bytes
  have hr := B.returns
  have hts := atoms_spec (ws := ws_ yX8_ware cX8_ware 3 (some .int)) B.pre
  have hts : ∀ w ∈ lw_all, w.before _ ss = true := fun w h => hts w (List.mem_cons_of_mem _ h)
  have hown : ss.vm.findClass RX8 = some mm.cls := findClass_of_methodNamed B.named
  have hlocks := B.notSynchronized
  have hD := hA.2.self
  have hS : va_S (mAd ad N) ss.heap ss.heap [] := va_S.rf
  have hNN := hA.1
  have hl := lv_entry ([.ref (ad 0), .int a, .int d]) (n := 3) (Nat.le_of_ble_eq_true rfl)
  rw [lg_entry_eq]
  generalize (lg_sl ([.ref (ad 0), .int a, .int d]) ++ List.replicate (3 - (lg_sl ([.ref (ad 0), .int a, .int d])).length) Slot.unset).toArray = ls at hl ⊢
  have hl : lv_has ls 3 [(0, .ref (ad 0)), (1, .int a), (2, .int d)] := hl
  refine lv_iload_n hx hb dX8_ware_0 rfl (lv_at hl 1 rfl) ?_
  refine lv_i2l (v := a.toInt64) hx hb dX8_ware_1 rfl ?_
  refine lv_lconst (v := 1) hx hb dX8_ware_2 (by decide) ?_
  refine lv_ldc2 hx hb hown (hts _ q853) dX8_ware_3 ?_
  refine vp_callSi (W.runS (As := [.long a.toInt64, .long 1, .long 9999]) (rest := []) ⟨hx, hb, hml, hown, hts⟩ (mt_X8_in l a.toInt64 1 9999) (va_cwS 3 hts (lw_S q854 q855 q55 q856) rfl rfl rfl (by decide +kernel) ⟨Nat.le_of_ble_eq_true rfl, Nat.le_of_ble_eq_true rfl⟩) ⟨fun _ _ _ _ h => h, fun _ _ _ => ⟨rfl, trivial⟩⟩ rfl rfl hl.1 rfl (lv_room (Nat.le_of_ble_eq_true rfl)) dX8_ware_6 ⟨Nat.le_of_ble_eq_true rfl, Nat.le_of_ble_eq_true rfl⟩) (fun r_1 hr_1 => ?_)
  subst hr_1
  refine lv_rwi (bi_c (liv_of rfl rfl)) ?_
  refine lv_if_eq (tgt := 24) hx hb dX8_ware_9 (by decide) (fun c_2 => ?_) (fun c_2 => ?_)
  · have c_2 : ¬ (iv a 1 9999) := bi_f c_2
    refine lv_iconst (v := (-1)) hx hb dX8_ware_24 (by decide) ?_
    exact W.iret (v := (-1)) hx hb hr (fun t ht hW => ⟨⟨_, _, rfl, by dsimp only; rw [if_neg c_2]; exact ⟨rfl, rfl⟩, mB.of ht hP⟩, hS.F ht⟩) hS.2.2 dX8_ware_25
  · have c_2 : iv a 1 9999 := bi_t c_2
    have c_2_tn := iv_tn c_2 (by decide)
    refine lv_iload_n hx hb dX8_ware_12 rfl (lv_at hl 2 rfl) ?_
    refine lv_i2l (v := d.toInt64) hx hb dX8_ware_13 rfl ?_
    refine lv_lconst (v := 1) hx hb dX8_ware_14 (by decide) ?_
    refine lv_ldc2 hx hb hown (hts _ q890) dX8_ware_15 ?_
    refine vp_callSi (W.runS (As := [.long d.toInt64, .long 1, .long 9]) (rest := []) ⟨hx, hb, hml, hown, hts⟩ (mt_X8_in l d.toInt64 1 9) (va_cwS 3 hts (lw_S q854 q855 q55 q856) rfl rfl rfl (by decide +kernel) ⟨Nat.le_of_ble_eq_true rfl, Nat.le_of_ble_eq_true rfl⟩) ⟨fun _ _ _ _ h => h, fun _ _ _ => ⟨rfl, trivial⟩⟩ rfl rfl hl.1 rfl (lv_room (Nat.le_of_ble_eq_true rfl)) dX8_ware_18 ⟨Nat.le_of_ble_eq_true rfl, Nat.le_of_ble_eq_true rfl⟩) (fun r_3 hr_3 => ?_)
    subst hr_3
    refine lv_rwi (bi_c (liv_of rfl rfl)) ?_
    refine lv_if_ne (tgt := 26) hx hb dX8_ware_21 (by decide) (fun c_4 => ?_) (fun c_4 => ?_)
    · have c_4 : iv d 1 9 := bi_t c_4
      have c_4_tn := iv_tn c_4 (by decide)
      refine lv_aload_n hx hb dX8_ware_26 rfl (lv_at hl 0 rfl) ?_
      refine mg_get hx hb hts in_X8 hown hE hP 0 (yl_n hA (by decide)) rfl rfl 9 rfl (by decide) (hts _ q773) (fun _ h9 => h9) dX8_ware_27 ?_
      refine lv_bipush (v := 8) hx hb dX8_ware_30 (by decide) ?_
      refine lv_icmp_ne (tgt := 38) hx hb dX8_ware_32 (by decide) (fun c_5 => ?_) (fun c_5 => ?_)
      · have nc_5 : nw ≠ 8 := mi_ne hnw rfl (by omega) (by omega) c_5
        refine lv_aload_n hx hb dX8_ware_38 rfl (lv_at hl 0 rfl) ?_
        refine mg_ref hx hb hts in_X8 hown hE hP 0 (yl_n hA (by decide)) rfl rfl 10 rfl (by decide) (hts _ q774) (fun _ h9 => h9) dX8_ware_39 ?_
        refine lv_aload_n hx hb dX8_ware_42 rfl (lv_at hl 0 rfl) ?_
        refine mg_get hx hb hts in_X8 hown hE hP 0 (yl_n hA (by decide)) rfl rfl 9 rfl (by decide) (hts _ q773) (fun _ h9 => h9) dX8_ware_43 ?_
        refine lv_iload_n hx hb dX8_ware_46 rfl (lv_at hl 1 rfl) ?_
        refine mg_ist (v := a) hx hb hE hD hP hS 6 (yl_n hA (by decide)) rfl nw (by omega) hnw (by decide) dX8_ware_47 (fun H locs hP hS => ?_)
        refine lv_aload_n hx hb dX8_ware_48 rfl (lv_at hl 0 rfl) ?_
        refine mg_ref hx hb hts in_X8 hown hE hP 0 (yl_n hA (by decide)) rfl rfl 11 rfl (by decide) (hts _ q775) (fun _ h9 => h9) dX8_ware_49 ?_
        refine lv_aload_n hx hb dX8_ware_52 rfl (lv_at hl 0 rfl) ?_
        refine mg_get hx hb hts in_X8 hown hE hP 0 (yl_n hA (by decide)) rfl rfl 9 rfl (by decide) (hts _ q773) (fun _ h9 => h9) dX8_ware_53 ?_
        refine lv_rwi (mup_ne1 (by omega)) ?_
        refine lv_iload_n hx hb dX8_ware_56 rfl (lv_at hl 2 rfl) ?_
        refine mg_ist (v := d) hx hb hE hD hP hS 7 (yl_n hA (by decide)) rfl nw (by omega) hnw (by decide) dX8_ware_57 (fun H locs hP hS => ?_)
        refine lv_aload_n hx hb dX8_ware_58 rfl (lv_at hl 0 rfl) ?_
        refine lv_dup hx hb dX8_ware_59 rfl ?_
        refine mg_get hx hb hts in_X8 hown hE hP 0 (yl_n hA (by decide)) rfl rfl 9 rfl (by decide) (hts _ q773) (fun _ h9 => h9) dX8_ware_60 ?_
        refine lv_rwi ((mup_ne1 (by omega)).trans (mup_ne1 (by omega))) ?_
        refine lv_iconst (v := 1) hx hb dX8_ware_63 (by decide) ?_
        refine lv_iadd hx hb dX8_ware_64 ?_
        refine lv_rwi (mi_add hnw rfl) ?_
        refine mg_put (v := (nI (nw + 1))) (ty := .int) hx hb hts in_X8 tyX8 tyX8_ok nmX8 hown hE hD hP hS 0 (yl_n hA (by decide)) rfl rfl 9 rfl (by decide) (hts _ q773) (fun _ h9 => h9) rfl (by decide +kernel) rfl rfl dX8_ware_65 (fun H locs hP hS => ?_)
        refine lv_aload_n hx hb dX8_ware_68 rfl (lv_at hl 0 rfl) ?_
        refine mg_get hx hb hts in_X8 hown hE hP 0 (yl_n hA (by decide)) rfl rfl 9 rfl (by decide) (hts _ q773) (fun _ h9 => h9) dX8_ware_69 ?_
        refine lv_rwi (mup_self _ _ _ _) ?_
        refine lv_iconst (v := 1) hx hb dX8_ware_72 (by decide) ?_
        refine lv_isub hx hb dX8_ware_73 ?_
        exact W.iret (v := ((nI (nw + 1)) - 1)) hx hb hr (fun t ht hW => ⟨⟨_, _, rfl, by dsimp only; rw [if_pos c_2, if_pos c_4, if_neg nc_5]; exact ⟨nI_pred nw, rfl⟩, mB.of ht hP⟩, hS.F ht⟩) hS.2.2 dX8_ware_74
      · have nc_5 : nw = 8 := mi_eq hnw rfl (by omega) (by omega) c_5
        refine lv_bipush (v := (-3)) hx hb dX8_ware_35 (by decide) ?_
        exact W.iret (v := (-3)) hx hb hr (fun t ht hW => ⟨⟨_, _, rfl, by dsimp only; rw [if_pos c_2, if_pos c_4, if_pos nc_5]; exact ⟨rfl, rfl⟩, mB.of ht hP⟩, hS.F ht⟩) hS.2.2 dX8_ware_37
    · have c_4 : ¬ (iv d 1 9) := bi_f c_4
      refine lv_iconst (v := (-1)) hx hb dX8_ware_24 (by decide) ?_
      exact W.iret (v := (-1)) hx hb hr (fun t ht hW => ⟨⟨_, _, rfl, by dsimp only; rw [if_pos c_2, if_neg c_4]; exact ⟨rfl, rfl⟩, mB.of ht hP⟩, hS.F ht⟩) hS.2.2 dX8_ware_25
