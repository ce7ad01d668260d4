theorem xFk.mm {σ : mMem} {k np : Nat} {nc : Nat → Nat} {ld : Nat → Nat → Nat} (h : xFk σ k np nc ld) {b p : Nat} (hb : b = 30 + 15 * k) (hp : p < np) : σ (b + 3 * p) 6 = nI (nc p) := by subst hb; exact (h.2.2 p hp).1
theorem xFk.ll {σ : mMem} {k np : Nat} {nc : Nat → Nat} {ld : Nat → Nat → Nat} (h : xFk σ k np nc ld) {b p : Nat} (hb : b = 30 + 15 * k) (hp : p < np) : ∀ c, c < nc p → σ (b + 3 * p + 2) (4 * c) = nI (ld p c) ∧ ld p c < 5 := by subst hb; exact (h.2.2 p hp).2.2
theorem xFk.keep {σ τ : mMem} {k np : Nat} {nc : Nat → Nat} {ld : Nat → Nat → Nat} (h : xFk σ k np nc ld) (h1 : τ (1 + k) 3 = σ (1 + k) 3) (h2 : ∀ p, p < 5 → τ (30 + 15 * k + 3 * p) 6 = σ (30 + 15 * k + 3 * p) 6) (h3 : ∀ p, p < 5 → ∀ c, c < 8 → τ (30 + 15 * k + 3 * p + 2) (4 * c) = σ (30 + 15 * k + 3 * p + 2) (4 * c)) : xFk τ k np nc ld := by
  obtain ⟨a, b, d⟩ := h
  refine ⟨h1.trans a, b, fun p hp => ?_⟩
  obtain ⟨d1, d2, d3⟩ := d p hp
  refine ⟨(h2 p (by omega)).trans d1, d2, fun c hc => ?_⟩
  rw [h3 p (by omega) c (by omega)]
  exact d3 c hc
theorem xFk.mup {σ : mMem} {k np : Nat} {nc : Nat → Nat} {ld : Nat → Nat → Nat} (h : xFk σ k np nc ld) {a b : Nat} {v : Int32} (h1 : ¬ (a = 1 + k ∧ b = 3)) (h2 : ∀ p, p < 5 → ¬ (a = 30 + 15 * k + 3 * p ∧ b = 6)) (h3 : ∀ p, p < 5 → a ≠ 30 + 15 * k + 3 * p + 2) : xFk (mup σ a b v) k np nc ld := by
  refine h.keep ?_ (fun p hp => ?_) (fun p hp c hc => ?_)
  · rw [mup_at, if_neg (fun q => h1 ⟨q.1.symm, q.2.symm⟩)]
  · rw [mup_at, if_neg (fun q => h2 p hp ⟨q.1.symm, q.2.symm⟩)]
  · rw [mup_at, if_neg (fun q => h3 p hp q.1.symm)]
theorem ngt_ne {σ : mMem} {w n : Nat} {ld : Nat → Nat} {a b : Nat} (ha : a ≠ w + 2) (hb : ¬ (a = w ∧ b = 0)) : ngt σ w n ld a b = σ a b := by
  unfold ngt
  rw [mup_at, if_neg hb, va_up_ne _ _ ha]
theorem ngt_c {σ : mMem} {w n : Nat} {ld : Nat → Nat} {b : Nat} : ngt σ w n ld (w + 2) b = nco (σ (w + 2)) n b := by
  unfold ngt
  rw [mup_at, if_neg (by omega), va_up_self]
def ngA (σ : mMem) (b : Nat) (nc : Nat → Nat) (ld : Nat → Nat → Nat) : Nat → mMem
  | 0 => σ
  | p + 1 => ngt (ngA σ b nc ld p) (b + 3 * p) (nc p) (ld p)
theorem xFk_ngt {σ : mMem} {k np : Nat} {nc : Nat → Nat} {ld : Nat → Nat → Nat} (h : xFk σ k np nc ld) {b p n : Nat} {l : Nat → Nat} (hb : b = 30 + 15 * k) (hp : p < np) : xFk (ngt σ (b + 3 * p) n l) k np nc ld := by
  subst hb
  have := h.2.1
  refine h.keep (ngt_ne (by omega) (by omega)) (fun q hq => ngt_ne (by omega) (by omega)) (fun q hq c hc => ?_)
  by_cases e : q = p
  · subst e
    rw [ngt_c, nco_0]
  · exact ngt_ne (by omega) (by omega)
/-- one who may fall -/
def hot1 (τ : mMem) (w n : Nat) (h d : Int32) : mMem := if thk (τ (w + 2)) n ≤ mx0 (τ w 2 - h) then τ else mup (mup τ w 0 0) w 3 (if τ w 3 < 0 then d else τ w 3)
def hotF (τ : mMem) (b : Nat) (nc : Nat → Nat) (h d : Int32) : Nat → mMem
  | 0 => τ
  | p + 1 => hot1 (hotF τ b nc h d p) (b + 3 * p) (nc p) h d
/-- a night of the world k -/
def nightW (σ : mMem) (k np : Nat) (nc : Nat → Nat) (ld : Nat → Nat → Nat) (dy : Nat) : mMem := hotF (mup (ngA σ (30 + 15 * k) nc ld np) (1 + k) 4 (nI (dy + 1))) (30 + 15 * k) nc (σ (7 + k) ((dy + 1) / 30)) (nI (dy + 1)) np
def tkA (σ : mMem) (b1 b2 : Nat) : Nat → mMem
  | 0 => σ
  | p + 1 => tkf (tkA σ b1 b2 p) (b1 + 3 * p) (b2 + 3 * p)
/-- the world k1 is taken from the world k2 -/
def tkW (σ : mMem) (k1 k2 : Nat) : mMem := mup (mup (mup (va_up (va_up (tkA σ (30 + 15 * k1) (30 + 15 * k2) 5) (7 + k1) (va_cpy (tkA σ (30 + 15 * k1) (30 + 15 * k2) 5 (7 + k2)) (tkA σ (30 + 15 * k1) (30 + 15 * k2) 5 (7 + k1)) 0 0 12)) (10 + k1) (va_cpy (tkA σ (30 + 15 * k1) (30 + 15 * k2) 5 (10 + k2)) (tkA σ (30 + 15 * k1) (30 + 15 * k2) 5 (10 + k1)) 0 0 2)) (1 + k1) 3 (tkA σ (30 + 15 * k1) (30 + 15 * k2) 5 (1 + k2) 3)) (1 + k1) 4 (tkA σ (30 + 15 * k1) (30 + 15 * k2) 5 (1 + k2) 4)) (1 + k1) 5 (tkA σ (30 + 15 * k1) (30 + 15 * k2) 5 (1 + k2) 5)
set_option maxHeartbeats 4000000 in
set_option maxRecDepth 100000 in
theorem mt_X4_heat_0 (l : Launch) (D : va_G) (dA : Nat → ClassId) (rr : Nat → Option Nat) (xs : Nat → mSh) (ad : Nat → Nat) (N : Nat) (hA : xA ad N) (σ : mMem) (x : Int32) (dy : Nat) (hx0 : x = nI dy) (hdy : dy < 360) : Met l yX4_heat (ws_ yX4_heat cX4_heat 2 (some .int)) ({ frames := 0, cells := 0, slots := 0, locals := 0 }) (va_Pc [.ref (ad 1), .int x] (mPre D dA (shX rr xs) ad N σ)) (vp_Si (fun r : Int32 => r = σ 7 (dy / 30))) 0 0 (fun _ => False) := by
  refine Met.ofW (cc := cX4_heat) (maxL := 2) (ret := (some .int)) (by decide) rfl ?_
  intro pp ee ss mm args below meth cd s₁ B hml hv
  obtain ⟨rfl, hP, hE⟩ := hv
  have hx := B.exec
  have hb := B.bytes
  have hr := B.returns
  have hts := atoms_spec (ws := ws_ yX4_heat cX4_heat 2 (some .int)) B.pre
  have hts : ∀ w ∈ lw_all, w.before _ ss = true := fun w h => hts w (List.mem_cons_of_mem _ h)
  have hown : ss.vm.findClass RX4 = some mm.cls := findClass_of_methodNamed B.named
  have hlocks := B.notSynchronized
  have hNN := hA.1
  have hl := lv_entry ([.ref (ad 1), .int x]) (n := 2) (Nat.le_of_ble_eq_true rfl)
  rw [lg_entry_eq]
  generalize (lg_sl ([.ref (ad 1), .int x]) ++ List.replicate (2 - (lg_sl ([.ref (ad 1), .int x])).length) Slot.unset).toArray = ls at hl ⊢
  have hl : lv_has ls 2 [(0, .ref (ad 1)), (1, .int x)] := hl
  refine lv_aload_n hx hb dX4_heat_0 rfl (lv_at hl 0 rfl) ?_
  refine mg_ref hx hb hts in_X4 hown hE hP 1 (xl_n hA (by decide)) rfl rfl 1 rfl (by decide) (hts _ q146) (fun _ h9 => h9) dX4_heat_1 ?_
  refine lv_iload_n hx hb dX4_heat_4 rfl (lv_at hl 1 rfl) ?_
  refine lv_bipush (v := 30) hx hb dX4_heat_5 (by decide) ?_
  refine lv_idiv hx hb dX4_heat_7 (by decide) ?_
  refine mg_ild hx hb hE hP 7 (xl_n hA (by decide)) rfl (dy / 30) (by omega) (mi_div (a := dy) (b := 30) hx0 rfl (by omega) (by omega) (by omega)) (by decide) dX4_heat_8 ?_
  exact W.iret (v := σ 7 (dy / 30)) hx hb hr (fun t ht hW => ⟨_, rfl, rfl, ht⟩) (fun q hq => by cases hq) dX4_heat_9
set_option maxHeartbeats 4000000 in
set_option maxRecDepth 100000 in
theorem mt_X4_heat_1 (l : Launch) (D : va_G) (dA : Nat → ClassId) (rr : Nat → Option Nat) (xs : Nat → mSh) (ad : Nat → Nat) (N : Nat) (hA : xA ad N) (σ : mMem) (x : Int32) (dy : Nat) (hx0 : x = nI dy) (hdy : dy < 360) : Met l yX4_heat (ws_ yX4_heat cX4_heat 2 (some .int)) ({ frames := 0, cells := 0, slots := 0, locals := 0 }) (va_Pc [.ref (ad 2), .int x] (mPre D dA (shX rr xs) ad N σ)) (vp_Si (fun r : Int32 => r = σ 8 (dy / 30))) 0 0 (fun _ => False) := by
  refine Met.ofW (cc := cX4_heat) (maxL := 2) (ret := (some .int)) (by decide) rfl ?_
  intro pp ee ss mm args below meth cd s₁ B hml hv
  obtain ⟨rfl, hP, hE⟩ := hv
  have hx := B.exec
  have hb := B.bytes
  have hr := B.returns
  have hts := atoms_spec (ws := ws_ yX4_heat cX4_heat 2 (some .int)) B.pre
  have hts : ∀ w ∈ lw_all, w.before _ ss = true := fun w h => hts w (List.mem_cons_of_mem _ h)
  have hown : ss.vm.findClass RX4 = some mm.cls := findClass_of_methodNamed B.named
  have hlocks := B.notSynchronized
  have hNN := hA.1
  have hl := lv_entry ([.ref (ad 2), .int x]) (n := 2) (Nat.le_of_ble_eq_true rfl)
  rw [lg_entry_eq]
  generalize (lg_sl ([.ref (ad 2), .int x]) ++ List.replicate (2 - (lg_sl ([.ref (ad 2), .int x])).length) Slot.unset).toArray = ls at hl ⊢
  have hl : lv_has ls 2 [(0, .ref (ad 2)), (1, .int x)] := hl
  refine lv_aload_n hx hb dX4_heat_0 rfl (lv_at hl 0 rfl) ?_
  refine mg_ref hx hb hts in_X4 hown hE hP 2 (xl_n hA (by decide)) rfl rfl 1 rfl (by decide) (hts _ q146) (fun _ h9 => h9) dX4_heat_1 ?_
  refine lv_iload_n hx hb dX4_heat_4 rfl (lv_at hl 1 rfl) ?_
  refine lv_bipush (v := 30) hx hb dX4_heat_5 (by decide) ?_
  refine lv_idiv hx hb dX4_heat_7 (by decide) ?_
  refine mg_ild hx hb hE hP 8 (xl_n hA (by decide)) rfl (dy / 30) (by omega) (mi_div (a := dy) (b := 30) hx0 rfl (by omega) (by omega) (by omega)) (by decide) dX4_heat_8 ?_
  exact W.iret (v := σ 8 (dy / 30)) hx hb hr (fun t ht hW => ⟨_, rfl, rfl, ht⟩) (fun q hq => by cases hq) dX4_heat_9
set_option maxHeartbeats 4000000 in
set_option maxRecDepth 100000 in
theorem mt_X4_night_0 (l : Launch) (D : va_G) (dA : Nat → ClassId) (rr : Nat → Option Nat) (xs : Nat → mSh) (ad : Nat → Nat) (N : Nat) (hA : xA ad N) (σ : mMem) (np : Nat) (nc : Nat → Nat) (ld : Nat → Nat → Nat) (hF : xFk σ 0 np nc ld) (dy : Nat) (hdy0 : σ 1 4 = nI dy) (hdy : dy + 1 < 360) : Met l yX4_night (ws_ yX4_night cX4_night 3 none) ({ frames := 2, cells := 0, slots := 0, locals := 43 }) (va_Pc [.ref (ad 1)] (mPre D dA (shX rr xs) ad N σ)) (va_Qv (fun (u : mMem) => u = nightW σ 0 np nc ld dy) (mB D dA (shX rr xs) ad N) (mAd ad N)) 0 0 (mAd ad N) := by
  refine Met.ofW (cc := cX4_night) (maxL := 3) (ret := none) (by decide) rfl ?_
  intro pp ee ss mm args below meth cd s₁ B hml hv
  obtain ⟨rfl, hP, hE⟩ := hv
  have hx := B.exec
  have hb := B.bytes
  have hr := B.returns
  have hts := atoms_spec (ws := ws_ yX4_night cX4_night 3 none) B.pre
  have hts : ∀ w ∈ lw_all, w.before _ ss = true := fun w h => hts w (List.mem_cons_of_mem _ h)
  have hown : ss.vm.findClass RX4 = some mm.cls := findClass_of_methodNamed B.named
  have hlocks := B.notSynchronized
  have hD := hA.2.self
  have hS : va_S (mAd ad N) ss.heap ss.heap [] := va_S.rf
  have hNN := hA.1
  have hn5 := hF.2.1
  have h8 : ∀ p, p < np → nc p ≤ 8 := fun p hp => (hF.2.2 p hp).2.1
  have hl := lv_entry ([.ref (ad 1)]) (n := 3) (Nat.le_of_ble_eq_true rfl)
  rw [lg_entry_eq]
  generalize (lg_sl ([.ref (ad 1)]) ++ List.replicate (3 - (lg_sl ([.ref (ad 1)])).length) Slot.unset).toArray = ls at hl ⊢
  have hl : lv_has ls 3 [(0, .ref (ad 1))] := hl
  refine lv_iconst (v := 0) hx hb dX4_night_0 (by decide) ?_
  refine lv_istore_n (lv' := [(1, .int 0), (0, .ref (ad 1))]) hx hb dX4_night_1 rfl hl (by decide) rfl (fun ls hl => ?_)
  have lp2 : ∀ (fu : Nat) (p : Nat) (τ : mMem) (_ : p ≤ np) (_ : τ = ngA σ 30 nc ld p) (_ : xFk τ 0 np nc ld) (_ : τ 1 4 = nI dy) (_ : τ 7 ((dy + 1) / 30) = σ 7 ((dy + 1) / 30)) (_ : np - p < fu) (H : Heap) (locs : List Loc) (_ : va_P D xCl (mW dA (shX rr xs) ad N τ) H) (_ : va_S (mAd ad N) ss.heap H locs) (ls : Array Slot) (_ : lv_has ls 3 [(1, .int (nI p)), (0, .ref (ad 1))]), W pp l ee (headSpec (ws_ yX4_night cX4_night 3 none) ({ frames := 2, cells := 0, slots := 0, locals := 43 })).room ss mm ([.ref (ad 1)] : List Value).toArray below meth cd H locs 0 0 (MQ below (va_Qv (fun (u : mMem) => u = nightW σ 0 np nc ld dy) (mB D dA (shX rr xs) ad N) (mAd ad N)) ([.ref (ad 1)] : List Value).toArray ss 0 0 (mAd ad N)) (F0 mm 2 ls []) := by
    intro fu
    induction fu with
    | zero => intro p τ hp hτ hF1 hday hh1 hfu; exact absurd hfu (Nat.not_lt_zero _)
    | succ fu ih2 =>
      intro p τ hp hτ hF1 hday hh1 hfu H locs hP hS ls hl
      refine lv_iload_n hx hb dX4_night_2 rfl (lv_at hl 0 rfl) ?_
      refine lv_aload_n hx hb dX4_night_3 rfl (lv_at hl 1 rfl) ?_
      refine mg_get hx hb hts in_X4 hown hE hP 1 (xl_n hA (by decide)) rfl rfl 3 rfl (by decide) (hts _ q150) (fun _ h9 => h9) dX4_night_4 ?_
      refine lv_icmp_ge (tgt := 25) hx hb dX4_night_7 (by decide) (fun c_1 => ?_) (fun c_1 => ?_)
      · have nc_1 : np ≤ p := mi_le hF1.1 rfl (by omega) (by omega) c_1
        refine lv_aload_n hx hb dX4_night_25 rfl (lv_at hl 1 rfl) ?_
        refine lv_dup hx hb dX4_night_26 rfl ?_
        refine mg_get hx hb hts in_X4 hown hE hP 1 (xl_n hA (by decide)) rfl rfl 4 rfl (by decide) (hts _ q152) (fun _ h9 => h9) dX4_night_27 ?_
        refine lv_iconst (v := 1) hx hb dX4_night_30 (by decide) ?_
        refine lv_iadd hx hb dX4_night_31 ?_
        refine lv_rwi (mi_add hday rfl) ?_
        refine mg_put (v := (nI (dy + 1))) (ty := .int) hx hb hts in_X4 tyX4 tyX4_ok nmX4 hown hE hD hP hS 1 (xl_n hA (by decide)) rfl rfl 4 rfl (by decide) (hts _ q152) (fun _ h9 => h9) rfl (by decide +kernel) rfl rfl dX4_night_32 (fun H locs hP hS => ?_)
        refine lv_iconst (v := 0) hx hb dX4_night_35 (by decide) ?_
        refine lv_istore_n (lv' := [(1, .int 0), (0, .ref (ad 1))]) hx hb dX4_night_36 rfl hl (by decide) rfl (fun ls hl => ?_)
        have lp37 : ∀ (fu : Nat) (q : Nat) (τ2 : mMem) (_ : q ≤ np) (_ : τ2 = hotF (mup (ngA σ 30 nc ld np) 1 4 (nI (dy + 1))) 30 nc (σ 7 ((dy + 1) / 30)) (nI (dy + 1)) q) (_ : xFk τ2 0 np nc ld) (_ : τ2 1 4 = nI (dy + 1)) (_ : τ2 7 ((dy + 1) / 30) = σ 7 ((dy + 1) / 30)) (_ : np - q < fu) (H : Heap) (locs : List Loc) (_ : va_P D xCl (mW dA (shX rr xs) ad N τ2) H) (_ : va_S (mAd ad N) ss.heap H locs) (ls : Array Slot) (_ : lv_has ls 3 [(1, .int (nI q)), (0, .ref (ad 1))]), W pp l ee (headSpec (ws_ yX4_night cX4_night 3 none) ({ frames := 2, cells := 0, slots := 0, locals := 43 })).room ss mm ([.ref (ad 1)] : List Value).toArray below meth cd H locs 0 0 (MQ below (va_Qv (fun (u : mMem) => u = nightW σ 0 np nc ld dy) (mB D dA (shX rr xs) ad N) (mAd ad N)) ([.ref (ad 1)] : List Value).toArray ss 0 0 (mAd ad N)) (F0 mm 37 ls []) := by
          intro fu
          induction fu with
          | zero => intro q τ2 hq hτ2 hF2 hd2 hh2 hfu; exact absurd hfu (Nat.not_lt_zero _)
          | succ fu ih37 =>
            intro q τ2 hq hτ2 hF2 hd2 hh2 hfu H locs hP hS ls hl
            refine lv_iload_n hx hb dX4_night_37 rfl (lv_at hl 0 rfl) ?_
            refine lv_aload_n hx hb dX4_night_38 rfl (lv_at hl 1 rfl) ?_
            refine mg_get hx hb hts in_X4 hown hE hP 1 (xl_n hA (by decide)) rfl rfl 3 rfl (by decide) (hts _ q150) (fun _ h9 => h9) dX4_night_39 ?_
            refine lv_icmp_ge (tgt := 100) hx hb dX4_night_42 (by decide) (fun c_2 => ?_) (fun c_2 => ?_)
            · have nc_2 : np ≤ q := mi_le hF2.1 rfl (by omega) (by omega) c_2
              exact W.vret hx hb hr (fun t ht hW => ⟨⟨_, rfl, by rw [hτ2, show q = np by omega]; rfl, mB.of ht hP⟩, hS.F ht⟩) hS.2.2 dX4_night_100
            · have nc_2 : q < np := mi_nle hF2.1 rfl (by omega) (by omega) c_2
              have h8q := h8 q (by omega)
              refine lv_aload_n hx hb dX4_night_45 rfl (lv_at hl 1 rfl) ?_
              refine mg_ref hx hb hts in_X4 hown hE hP 1 (xl_n hA (by decide)) rfl rfl 0 rfl (by decide) (hts _ q144) (fun _ h9 => h9) dX4_night_46 ?_
              refine lv_iload_n hx hb dX4_night_49 rfl (lv_at hl 0 rfl) ?_
              refine mg_ald hx hb hE hP 4 (xl_n hA (by decide)) rfl rfl q (by omega) rfl (by decide) rfl dX4_night_50 ?_
              refine lv_astore_n (lv' := [(2, .ref (ad (30 + 3 * q))), (1, .int (nI q)), (0, .ref (ad 1))]) hx hb dX4_night_51 rfl hl (by decide) rfl (fun ls hl => ?_)
              refine lv_aload_n hx hb dX4_night_52 rfl (lv_at hl 0 rfl) ?_
              refine lv_aload_n hx hb dX4_night_53 rfl (lv_at hl 2 rfl) ?_
              refine lv_aload_n hx hb dX4_night_54 rfl (lv_at hl 2 rfl) ?_
              refine mg_get hx hb hts in_X4 hown hE hP 1 (xl_n hA (by decide)) rfl rfl 4 rfl (by decide) (hts _ q152) (fun _ h9 => h9) dX4_night_55 ?_
              refine vp_callSi (W.runV (As := [.int (τ2 1 4)]) (rest := [.ref (ad (30 + 3 * q))]) ⟨hx, hb, hml, hown, hts⟩ (mt_X4_heat_0 l D dA rr xs ad N hA τ2 (τ2 1 4) (dy + 1) hd2 (by omega)) (cwV 1 hts (lw_V q499 q500 q501 q49 q502) rfl rfl rfl (by decide +kernel) ⟨Nat.le_of_ble_eq_true rfl, Nat.le_of_ble_eq_true rfl⟩) ⟨mPre.blind, m_recv hE hP 1 (xl_n hA (by decide)) rfl rfl, mPre.at hE hP⟩ rfl rfl hl.1 rfl (lv_room (Nat.le_of_ble_eq_true rfl)) dX4_night_58 ⟨Nat.le_of_ble_eq_true rfl, Nat.le_of_ble_eq_true rfl⟩) (fun r_3 hr_3 => ?_)
              subst hr_3
              refine vp_callSi (W.runV (As := [.int (τ2 7 ((dy + 1) / 30))]) (rest := []) ⟨hx, hb, hml, hown, hts⟩ (mt_X5_bears l D dA rr xs ad N hA τ2 (30 + 3 * q) (xw_p0 (p := q) (by omega)) (τ2 7 ((dy + 1) / 30)) (nc q) (xFk.mm hF2 (b := 30) rfl (by omega)) (by omega)) (cwV 1 hts (lw_V q503 q504 q505 q50 q506) rfl rfl rfl (by decide +kernel) ⟨Nat.le_of_ble_eq_true rfl, Nat.le_of_ble_eq_true rfl⟩) ⟨mPre.blind, m_recv hE hP (30 + 3 * q) (xl_o hA (xw_p0 (p := q) (by omega))) (shX_o (xw_p0 (p := q) (by omega))) rfl, mPre.at hE hP⟩ rfl rfl hl.1 rfl (lv_room (Nat.le_of_ble_eq_true rfl)) dX4_night_61 ⟨Nat.le_of_ble_eq_true rfl, Nat.le_of_ble_eq_true rfl⟩) (fun r_4 hr_4 => ?_)
              subst hr_4
              refine lv_if_ne (tgt := 94) hx hb dX4_night_64 (by decide) (fun c_5 => ?_) (fun c_5 => ?_)
              · have c_5 : thk (τ2 (30 + 3 * q + 2)) (nc q) ≤ mx0 (τ2 (30 + 3 * q) 2 - τ2 7 ((dy + 1) / 30)) := bi_t c_5
                refine lv_iinc (v := (nI (q + 1))) (lv' := [(1, .int (nI (q + 1))), (2, .ref (ad (30 + 3 * q))), (0, .ref (ad 1))]) hx hb dX4_night_94 hl (k := 1) rfl (mi_add rfl rfl) (by decide) rfl (fun ls hl => ?_)
                refine lv_goto (tgt := 37) hx hb dX4_night_97 (by decide) ?_
                exact ih37  (q + 1) τ2 (by omega) (by rw [hotF, ← hτ2, hot1, ← hh2, if_pos c_5]) hF2 hd2 hh2 (by omega) _ _ hP hS ls (lv_sub hl [0, 2] rfl)
              · have c_5 : ¬ (thk (τ2 (30 + 3 * q + 2)) (nc q) ≤ mx0 (τ2 (30 + 3 * q) 2 - τ2 7 ((dy + 1) / 30))) := bi_f c_5
                refine lv_aload_n hx hb dX4_night_67 rfl (lv_at hl 0 rfl) ?_
                refine lv_iconst (v := 0) hx hb dX4_night_68 (by decide) ?_
                refine mg_putN (v := 0) (ty := .int) hx hb hts in_X5 tyX5 tyX5_ok nmX5 hown hE hD hP hS (30 + 3 * q) (xl_o hA (xw_p0 (p := q) (by omega))) (shX_o (xw_p0 (p := q) (by omega))) rfl 0 rfl (by decide) q111 (fun _ h9 => h9) rfl (by decide +kernel) rfl rfl dX4_night_69 (fun H locs hP hS => ?_)
                refine lv_aload_n hx hb dX4_night_72 rfl (lv_at hl 0 rfl) ?_
                refine lv_aload_n hx hb dX4_night_73 rfl (lv_at hl 0 rfl) ?_
                refine mg_getN hx hb hts in_X5 hown hE hP (30 + 3 * q) (xl_o hA (xw_p0 (p := q) (by omega))) (shX_o (xw_p0 (p := q) (by omega))) rfl 3 rfl (by decide) q118 (fun _ h9 => h9) dX4_night_74 ?_
                refine lv_rwi (mup_ne2 (by omega)) ?_
                refine lv_if_ge (tgt := 87) hx hb dX4_night_77 (by decide) (fun c_6 => ?_) (fun c_6 => ?_)
                · skip
                  refine lv_aload_n hx hb dX4_night_87 rfl (lv_at hl 0 rfl) ?_
                  refine mg_getN hx hb hts in_X5 hown hE hP (30 + 3 * q) (xl_o hA (xw_p0 (p := q) (by omega))) (shX_o (xw_p0 (p := q) (by omega))) rfl 3 rfl (by decide) q118 (fun _ h9 => h9) dX4_night_88 ?_
                  refine lv_rwi (mup_ne2 (by omega)) ?_
                  refine mg_putN (v := τ2 (30 + 3 * q) 3) (ty := .int) hx hb hts in_X5 tyX5 tyX5_ok nmX5 hown hE hD hP hS (30 + 3 * q) (xl_o hA (xw_p0 (p := q) (by omega))) (shX_o (xw_p0 (p := q) (by omega))) rfl 3 rfl (by decide) q118 (fun _ h9 => h9) rfl (by decide +kernel) rfl rfl dX4_night_91 (fun H locs hP hS => ?_)
                  refine lv_iinc (v := (nI (q + 1))) (lv' := [(1, .int (nI (q + 1))), (2, .ref (ad (30 + 3 * q))), (0, .ref (ad 1))]) hx hb dX4_night_94 hl (k := 1) rfl (mi_add rfl rfl) (by decide) rfl (fun ls hl => ?_)
                  refine lv_goto (tgt := 37) hx hb dX4_night_97 (by decide) ?_
                  exact ih37  (q + 1) (mup (mup τ2 (30 + 3 * q) 0 0) (30 + 3 * q) 3 (τ2 (30 + 3 * q) 3)) (by omega) (by rw [hotF, ← hτ2, hot1, ← hh2, if_neg c_5, if_neg (Int32.not_lt.mpr c_6)]) ((hF2.mup (by omega) (by omega) (by omega)).mup (by omega) (by omega) (by omega)) ((mup_ne1 (by omega)).trans ((mup_ne1 (by omega)).trans hd2)) ((mup_ne1 (by omega)).trans ((mup_ne1 (by omega)).trans hh2)) (by omega) _ _ hP hS ls (lv_sub hl [0, 2] rfl)
                · skip
                  refine lv_aload_n hx hb dX4_night_80 rfl (lv_at hl 2 rfl) ?_
                  refine mg_get hx hb hts in_X4 hown hE hP 1 (xl_n hA (by decide)) rfl rfl 4 rfl (by decide) (hts _ q152) (fun _ h9 => h9) dX4_night_81 ?_
                  refine lv_rwi (mup_ne1 (by omega)) ?_
                  refine lv_goto (tgt := 91) hx hb dX4_night_84 (by decide) ?_
                  refine lv_rwi (hd2) ?_
                  refine mg_putN (v := (nI (dy + 1))) (ty := .int) hx hb hts in_X5 tyX5 tyX5_ok nmX5 hown hE hD hP hS (30 + 3 * q) (xl_o hA (xw_p0 (p := q) (by omega))) (shX_o (xw_p0 (p := q) (by omega))) rfl 3 rfl (by decide) q118 (fun _ h9 => h9) rfl (by decide +kernel) rfl rfl dX4_night_91 (fun H locs hP hS => ?_)
                  refine lv_iinc (v := (nI (q + 1))) (lv' := [(1, .int (nI (q + 1))), (2, .ref (ad (30 + 3 * q))), (0, .ref (ad 1))]) hx hb dX4_night_94 hl (k := 1) rfl (mi_add rfl rfl) (by decide) rfl (fun ls hl => ?_)
                  refine lv_goto (tgt := 37) hx hb dX4_night_97 (by decide) ?_
                  exact ih37  (q + 1) (mup (mup τ2 (30 + 3 * q) 0 0) (30 + 3 * q) 3 (nI (dy + 1))) (by omega) (by rw [hotF, ← hτ2, hot1, ← hh2, if_neg c_5, if_pos (Int32.not_le.mp c_6)]) ((hF2.mup (by omega) (by omega) (by omega)).mup (by omega) (by omega) (by omega)) ((mup_ne1 (by omega)).trans ((mup_ne1 (by omega)).trans hd2)) ((mup_ne1 (by omega)).trans ((mup_ne1 (by omega)).trans hh2)) (by omega) _ _ hP hS ls (lv_sub hl [0, 2] rfl)
        exact lp37 (np - 0 + 1) 0 (mup τ 1 4 (nI (dy + 1))) (by omega) (by rw [hτ, show p = np by omega]; rfl) (xFk.mup hF1 (by omega) (by omega) (by omega)) (mup_self _ _ _ _) ((mup_ne1 (by omega)).trans hh1) (by omega) _ _ hP hS ls (lv_sub hl [0, 1] rfl)
      · have nc_1 : p < np := mi_nle hF1.1 rfl (by omega) (by omega) c_1
        have h8p := h8 p (by omega)
        refine lv_aload_n hx hb dX4_night_10 rfl (lv_at hl 1 rfl) ?_
        refine mg_ref hx hb hts in_X4 hown hE hP 1 (xl_n hA (by decide)) rfl rfl 0 rfl (by decide) (hts _ q144) (fun _ h9 => h9) dX4_night_11 ?_
        refine lv_iload_n hx hb dX4_night_14 rfl (lv_at hl 0 rfl) ?_
        refine mg_ald hx hb hE hP 4 (xl_n hA (by decide)) rfl rfl p (by omega) rfl (by decide) rfl dX4_night_15 ?_
        refine va_callv (va_runV (As := []) (rest := []) ⟨hx, hb, hml, hown, hts⟩ (mt_X5_night l D dA rr xs ad N hA τ (30 + 3 * p) (xw_p0 (p := p) (by omega)) (nc p) (xFk.mm hF1 (b := 30) rfl (by omega)) (by omega) (ld p) (xFk.ll hF1 (b := 30) rfl (by omega))) (cwV 0 hts (lw_V q489 q490 q491 q50 q492) rfl rfl rfl (by decide +kernel) ⟨Nat.le_of_ble_eq_true rfl, Nat.le_of_ble_eq_true rfl⟩) ⟨mPre.blind, m_recv hE hP (30 + 3 * p) (xl_o hA (xw_p0 (p := p) (by omega))) (shX_o (xw_p0 (p := p) (by omega))) rfl, mPre.at hE hP⟩ rfl rfl hl.1 rfl (lv_room (Nat.le_of_ble_eq_true rfl)) dX4_night_16 ⟨Nat.le_of_ble_eq_true rfl, Nat.le_of_ble_eq_true rfl⟩) hS (fun q _ h => h) (fun q h => h) (fun ur_7 tr_7 H locs ht h0 hr_7 hB h1 h2 hS => ?_)
        subst hr_7
        have hP := mB.get ht hB
        refine lv_iinc (v := (nI (p + 1))) (lv' := [(1, .int (nI (p + 1))), (0, .ref (ad 1))]) hx hb dX4_night_19 hl (k := 0) rfl (mi_add rfl rfl) (by decide) rfl (fun ls hl => ?_)
        refine lv_goto (tgt := 2) hx hb dX4_night_22 (by decide) ?_
        exact ih2  (p + 1) (ngt τ (30 + 3 * p) (nc p) (ld p)) (by omega) (by rw [hτ]; rfl) (xFk_ngt hF1 (b := 30) rfl (by omega)) ((ngt_ne (by omega) (by omega)).trans hday) ((ngt_ne (by omega) (by omega)).trans hh1) (by omega) _ _ hP hS ls (lv_sub hl [0, 1] rfl)
  exact lp2 (np - 0 + 1) 0 σ (by omega) rfl hF hdy0 rfl (by omega) _ _ hP hS ls (lv_sub hl [0, 1] rfl)
set_option maxHeartbeats 4000000 in
set_option maxRecDepth 100000 in
theorem mt_X4_night_1 (l : Launch) (D : va_G) (dA : Nat → ClassId) (rr : Nat → Option Nat) (xs : Nat → mSh) (ad : Nat → Nat) (N : Nat) (hA : xA ad N) (σ : mMem) (np : Nat) (nc : Nat → Nat) (ld : Nat → Nat → Nat) (hF : xFk σ 1 np nc ld) (dy : Nat) (hdy0 : σ 2 4 = nI dy) (hdy : dy + 1 < 360) : Met l yX4_night (ws_ yX4_night cX4_night 3 none) ({ frames := 2, cells := 0, slots := 0, locals := 43 }) (va_Pc [.ref (ad 2)] (mPre D dA (shX rr xs) ad N σ)) (va_Qv (fun (u : mMem) => u = nightW σ 1 np nc ld dy) (mB D dA (shX rr xs) ad N) (mAd ad N)) 0 0 (mAd ad N) := by
  refine Met.ofW (cc := cX4_night) (maxL := 3) (ret := none) (by decide) rfl ?_
  intro pp ee ss mm args below meth cd s₁ B hml hv
  obtain ⟨rfl, hP, hE⟩ := hv
  have hx := B.exec
  have hb := B.bytes
  have hr := B.returns
  have hts := atoms_spec (ws := ws_ yX4_night cX4_night 3 none) B.pre
  have hts : ∀ w ∈ lw_all, w.before _ ss = true := fun w h => hts w (List.mem_cons_of_mem _ h)
  have hown : ss.vm.findClass RX4 = some mm.cls := findClass_of_methodNamed B.named
  have hlocks := B.notSynchronized
  have hD := hA.2.self
  have hS : va_S (mAd ad N) ss.heap ss.heap [] := va_S.rf
  have hNN := hA.1
  have hn5 := hF.2.1
  have h8 : ∀ p, p < np → nc p ≤ 8 := fun p hp => (hF.2.2 p hp).2.1
  have hl := lv_entry ([.ref (ad 2)]) (n := 3) (Nat.le_of_ble_eq_true rfl)
  rw [lg_entry_eq]
  generalize (lg_sl ([.ref (ad 2)]) ++ List.replicate (3 - (lg_sl ([.ref (ad 2)])).length) Slot.unset).toArray = ls at hl ⊢
  have hl : lv_has ls 3 [(0, .ref (ad 2))] := hl
  refine lv_iconst (v := 0) hx hb dX4_night_0 (by decide) ?_
  refine lv_istore_n (lv' := [(1, .int 0), (0, .ref (ad 2))]) hx hb dX4_night_1 rfl hl (by decide) rfl (fun ls hl => ?_)
  have lp2 : ∀ (fu : Nat) (p : Nat) (τ : mMem) (_ : p ≤ np) (_ : τ = ngA σ 45 nc ld p) (_ : xFk τ 1 np nc ld) (_ : τ 2 4 = nI dy) (_ : τ 8 ((dy + 1) / 30) = σ 8 ((dy + 1) / 30)) (_ : np - p < fu) (H : Heap) (locs : List Loc) (_ : va_P D xCl (mW dA (shX rr xs) ad N τ) H) (_ : va_S (mAd ad N) ss.heap H locs) (ls : Array Slot) (_ : lv_has ls 3 [(1, .int (nI p)), (0, .ref (ad 2))]), W pp l ee (headSpec (ws_ yX4_night cX4_night 3 none) ({ frames := 2, cells := 0, slots := 0, locals := 43 })).room ss mm ([.ref (ad 2)] : List Value).toArray below meth cd H locs 0 0 (MQ below (va_Qv (fun (u : mMem) => u = nightW σ 1 np nc ld dy) (mB D dA (shX rr xs) ad N) (mAd ad N)) ([.ref (ad 2)] : List Value).toArray ss 0 0 (mAd ad N)) (F0 mm 2 ls []) := by
    intro fu
    induction fu with
    | zero => intro p τ hp hτ hF1 hday hh1 hfu; exact absurd hfu (Nat.not_lt_zero _)
    | succ fu ih2 =>
      intro p τ hp hτ hF1 hday hh1 hfu H locs hP hS ls hl
      refine lv_iload_n hx hb dX4_night_2 rfl (lv_at hl 0 rfl) ?_
      refine lv_aload_n hx hb dX4_night_3 rfl (lv_at hl 1 rfl) ?_
      refine mg_get hx hb hts in_X4 hown hE hP 2 (xl_n hA (by decide)) rfl rfl 3 rfl (by decide) (hts _ q150) (fun _ h9 => h9) dX4_night_4 ?_
      refine lv_icmp_ge (tgt := 25) hx hb dX4_night_7 (by decide) (fun c_1 => ?_) (fun c_1 => ?_)
      · have nc_1 : np ≤ p := mi_le hF1.1 rfl (by omega) (by omega) c_1
        refine lv_aload_n hx hb dX4_night_25 rfl (lv_at hl 1 rfl) ?_
        refine lv_dup hx hb dX4_night_26 rfl ?_
        refine mg_get hx hb hts in_X4 hown hE hP 2 (xl_n hA (by decide)) rfl rfl 4 rfl (by decide) (hts _ q152) (fun _ h9 => h9) dX4_night_27 ?_
        refine lv_iconst (v := 1) hx hb dX4_night_30 (by decide) ?_
        refine lv_iadd hx hb dX4_night_31 ?_
        refine lv_rwi (mi_add hday rfl) ?_
        refine mg_put (v := (nI (dy + 1))) (ty := .int) hx hb hts in_X4 tyX4 tyX4_ok nmX4 hown hE hD hP hS 2 (xl_n hA (by decide)) rfl rfl 4 rfl (by decide) (hts _ q152) (fun _ h9 => h9) rfl (by decide +kernel) rfl rfl dX4_night_32 (fun H locs hP hS => ?_)
        refine lv_iconst (v := 0) hx hb dX4_night_35 (by decide) ?_
        refine lv_istore_n (lv' := [(1, .int 0), (0, .ref (ad 2))]) hx hb dX4_night_36 rfl hl (by decide) rfl (fun ls hl => ?_)
        have lp37 : ∀ (fu : Nat) (q : Nat) (τ2 : mMem) (_ : q ≤ np) (_ : τ2 = hotF (mup (ngA σ 45 nc ld np) 2 4 (nI (dy + 1))) 45 nc (σ 8 ((dy + 1) / 30)) (nI (dy + 1)) q) (_ : xFk τ2 1 np nc ld) (_ : τ2 2 4 = nI (dy + 1)) (_ : τ2 8 ((dy + 1) / 30) = σ 8 ((dy + 1) / 30)) (_ : np - q < fu) (H : Heap) (locs : List Loc) (_ : va_P D xCl (mW dA (shX rr xs) ad N τ2) H) (_ : va_S (mAd ad N) ss.heap H locs) (ls : Array Slot) (_ : lv_has ls 3 [(1, .int (nI q)), (0, .ref (ad 2))]), W pp l ee (headSpec (ws_ yX4_night cX4_night 3 none) ({ frames := 2, cells := 0, slots := 0, locals := 43 })).room ss mm ([.ref (ad 2)] : List Value).toArray below meth cd H locs 0 0 (MQ below (va_Qv (fun (u : mMem) => u = nightW σ 1 np nc ld dy) (mB D dA (shX rr xs) ad N) (mAd ad N)) ([.ref (ad 2)] : List Value).toArray ss 0 0 (mAd ad N)) (F0 mm 37 ls []) := by
          intro fu
          induction fu with
          | zero => intro q τ2 hq hτ2 hF2 hd2 hh2 hfu; exact absurd hfu (Nat.not_lt_zero _)
          | succ fu ih37 =>
            intro q τ2 hq hτ2 hF2 hd2 hh2 hfu H locs hP hS ls hl
            refine lv_iload_n hx hb dX4_night_37 rfl (lv_at hl 0 rfl) ?_
            refine lv_aload_n hx hb dX4_night_38 rfl (lv_at hl 1 rfl) ?_
            refine mg_get hx hb hts in_X4 hown hE hP 2 (xl_n hA (by decide)) rfl rfl 3 rfl (by decide) (hts _ q150) (fun _ h9 => h9) dX4_night_39 ?_
            refine lv_icmp_ge (tgt := 100) hx hb dX4_night_42 (by decide) (fun c_2 => ?_) (fun c_2 => ?_)
            · have nc_2 : np ≤ q := mi_le hF2.1 rfl (by omega) (by omega) c_2
              exact W.vret hx hb hr (fun t ht hW => ⟨⟨_, rfl, by rw [hτ2, show q = np by omega]; rfl, mB.of ht hP⟩, hS.F ht⟩) hS.2.2 dX4_night_100
            · have nc_2 : q < np := mi_nle hF2.1 rfl (by omega) (by omega) c_2
              have h8q := h8 q (by omega)
              refine lv_aload_n hx hb dX4_night_45 rfl (lv_at hl 1 rfl) ?_
              refine mg_ref hx hb hts in_X4 hown hE hP 2 (xl_n hA (by decide)) rfl rfl 0 rfl (by decide) (hts _ q144) (fun _ h9 => h9) dX4_night_46 ?_
              refine lv_iload_n hx hb dX4_night_49 rfl (lv_at hl 0 rfl) ?_
              refine mg_ald hx hb hE hP 5 (xl_n hA (by decide)) rfl rfl q (by omega) rfl (by decide) rfl dX4_night_50 ?_
              refine lv_astore_n (lv' := [(2, .ref (ad (45 + 3 * q))), (1, .int (nI q)), (0, .ref (ad 2))]) hx hb dX4_night_51 rfl hl (by decide) rfl (fun ls hl => ?_)
              refine lv_aload_n hx hb dX4_night_52 rfl (lv_at hl 0 rfl) ?_
              refine lv_aload_n hx hb dX4_night_53 rfl (lv_at hl 2 rfl) ?_
              refine lv_aload_n hx hb dX4_night_54 rfl (lv_at hl 2 rfl) ?_
              refine mg_get hx hb hts in_X4 hown hE hP 2 (xl_n hA (by decide)) rfl rfl 4 rfl (by decide) (hts _ q152) (fun _ h9 => h9) dX4_night_55 ?_
              refine vp_callSi (W.runV (As := [.int (τ2 2 4)]) (rest := [.ref (ad (45 + 3 * q))]) ⟨hx, hb, hml, hown, hts⟩ (mt_X4_heat_1 l D dA rr xs ad N hA τ2 (τ2 2 4) (dy + 1) hd2 (by omega)) (cwV 1 hts (lw_V q499 q500 q501 q49 q502) rfl rfl rfl (by decide +kernel) ⟨Nat.le_of_ble_eq_true rfl, Nat.le_of_ble_eq_true rfl⟩) ⟨mPre.blind, m_recv hE hP 2 (xl_n hA (by decide)) rfl rfl, mPre.at hE hP⟩ rfl rfl hl.1 rfl (lv_room (Nat.le_of_ble_eq_true rfl)) dX4_night_58 ⟨Nat.le_of_ble_eq_true rfl, Nat.le_of_ble_eq_true rfl⟩) (fun r_3 hr_3 => ?_)
              subst hr_3
              refine vp_callSi (W.runV (As := [.int (τ2 8 ((dy + 1) / 30))]) (rest := []) ⟨hx, hb, hml, hown, hts⟩ (mt_X5_bears l D dA rr xs ad N hA τ2 (45 + 3 * q) (xw_p1 (p := q) (by omega)) (τ2 8 ((dy + 1) / 30)) (nc q) (xFk.mm hF2 (b := 45) rfl (by omega)) (by omega)) (cwV 1 hts (lw_V q503 q504 q505 q50 q506) rfl rfl rfl (by decide +kernel) ⟨Nat.le_of_ble_eq_true rfl, Nat.le_of_ble_eq_true rfl⟩) ⟨mPre.blind, m_recv hE hP (45 + 3 * q) (xl_o hA (xw_p1 (p := q) (by omega))) (shX_o (xw_p1 (p := q) (by omega))) rfl, mPre.at hE hP⟩ rfl rfl hl.1 rfl (lv_room (Nat.le_of_ble_eq_true rfl)) dX4_night_61 ⟨Nat.le_of_ble_eq_true rfl, Nat.le_of_ble_eq_true rfl⟩) (fun r_4 hr_4 => ?_)
              subst hr_4
              refine lv_if_ne (tgt := 94) hx hb dX4_night_64 (by decide) (fun c_5 => ?_) (fun c_5 => ?_)
              · have c_5 : thk (τ2 (45 + 3 * q + 2)) (nc q) ≤ mx0 (τ2 (45 + 3 * q) 2 - τ2 8 ((dy + 1) / 30)) := bi_t c_5
                refine lv_iinc (v := (nI (q + 1))) (lv' := [(1, .int (nI (q + 1))), (2, .ref (ad (45 + 3 * q))), (0, .ref (ad 2))]) hx hb dX4_night_94 hl (k := 1) rfl (mi_add rfl rfl) (by decide) rfl (fun ls hl => ?_)
                refine lv_goto (tgt := 37) hx hb dX4_night_97 (by decide) ?_
                exact ih37  (q + 1) τ2 (by omega) (by rw [hotF, ← hτ2, hot1, ← hh2, if_pos c_5]) hF2 hd2 hh2 (by omega) _ _ hP hS ls (lv_sub hl [0, 2] rfl)
              · have c_5 : ¬ (thk (τ2 (45 + 3 * q + 2)) (nc q) ≤ mx0 (τ2 (45 + 3 * q) 2 - τ2 8 ((dy + 1) / 30))) := bi_f c_5
                refine lv_aload_n hx hb dX4_night_67 rfl (lv_at hl 0 rfl) ?_
                refine lv_iconst (v := 0) hx hb dX4_night_68 (by decide) ?_
                refine mg_putN (v := 0) (ty := .int) hx hb hts in_X5 tyX5 tyX5_ok nmX5 hown hE hD hP hS (45 + 3 * q) (xl_o hA (xw_p1 (p := q) (by omega))) (shX_o (xw_p1 (p := q) (by omega))) rfl 0 rfl (by decide) q111 (fun _ h9 => h9) rfl (by decide +kernel) rfl rfl dX4_night_69 (fun H locs hP hS => ?_)
                refine lv_aload_n hx hb dX4_night_72 rfl (lv_at hl 0 rfl) ?_
                refine lv_aload_n hx hb dX4_night_73 rfl (lv_at hl 0 rfl) ?_
                refine mg_getN hx hb hts in_X5 hown hE hP (45 + 3 * q) (xl_o hA (xw_p1 (p := q) (by omega))) (shX_o (xw_p1 (p := q) (by omega))) rfl 3 rfl (by decide) q118 (fun _ h9 => h9) dX4_night_74 ?_
                refine lv_rwi (mup_ne2 (by omega)) ?_
                refine lv_if_ge (tgt := 87) hx hb dX4_night_77 (by decide) (fun c_6 => ?_) (fun c_6 => ?_)
                · skip
                  refine lv_aload_n hx hb dX4_night_87 rfl (lv_at hl 0 rfl) ?_
                  refine mg_getN hx hb hts in_X5 hown hE hP (45 + 3 * q) (xl_o hA (xw_p1 (p := q) (by omega))) (shX_o (xw_p1 (p := q) (by omega))) rfl 3 rfl (by decide) q118 (fun _ h9 => h9) dX4_night_88 ?_
                  refine lv_rwi (mup_ne2 (by omega)) ?_
                  refine mg_putN (v := τ2 (45 + 3 * q) 3) (ty := .int) hx hb hts in_X5 tyX5 tyX5_ok nmX5 hown hE hD hP hS (45 + 3 * q) (xl_o hA (xw_p1 (p := q) (by omega))) (shX_o (xw_p1 (p := q) (by omega))) rfl 3 rfl (by decide) q118 (fun _ h9 => h9) rfl (by decide +kernel) rfl rfl dX4_night_91 (fun H locs hP hS => ?_)
                  refine lv_iinc (v := (nI (q + 1))) (lv' := [(1, .int (nI (q + 1))), (2, .ref (ad (45 + 3 * q))), (0, .ref (ad 2))]) hx hb dX4_night_94 hl (k := 1) rfl (mi_add rfl rfl) (by decide) rfl (fun ls hl => ?_)
                  refine lv_goto (tgt := 37) hx hb dX4_night_97 (by decide) ?_
                  exact ih37  (q + 1) (mup (mup τ2 (45 + 3 * q) 0 0) (45 + 3 * q) 3 (τ2 (45 + 3 * q) 3)) (by omega) (by rw [hotF, ← hτ2, hot1, ← hh2, if_neg c_5, if_neg (Int32.not_lt.mpr c_6)]) ((hF2.mup (by omega) (by omega) (by omega)).mup (by omega) (by omega) (by omega)) ((mup_ne1 (by omega)).trans ((mup_ne1 (by omega)).trans hd2)) ((mup_ne1 (by omega)).trans ((mup_ne1 (by omega)).trans hh2)) (by omega) _ _ hP hS ls (lv_sub hl [0, 2] rfl)
                · skip
                  refine lv_aload_n hx hb dX4_night_80 rfl (lv_at hl 2 rfl) ?_
                  refine mg_get hx hb hts in_X4 hown hE hP 2 (xl_n hA (by decide)) rfl rfl 4 rfl (by decide) (hts _ q152) (fun _ h9 => h9) dX4_night_81 ?_
                  refine lv_rwi (mup_ne1 (by omega)) ?_
                  refine lv_goto (tgt := 91) hx hb dX4_night_84 (by decide) ?_
                  refine lv_rwi (hd2) ?_
                  refine mg_putN (v := (nI (dy + 1))) (ty := .int) hx hb hts in_X5 tyX5 tyX5_ok nmX5 hown hE hD hP hS (45 + 3 * q) (xl_o hA (xw_p1 (p := q) (by omega))) (shX_o (xw_p1 (p := q) (by omega))) rfl 3 rfl (by decide) q118 (fun _ h9 => h9) rfl (by decide +kernel) rfl rfl dX4_night_91 (fun H locs hP hS => ?_)
                  refine lv_iinc (v := (nI (q + 1))) (lv' := [(1, .int (nI (q + 1))), (2, .ref (ad (45 + 3 * q))), (0, .ref (ad 2))]) hx hb dX4_night_94 hl (k := 1) rfl (mi_add rfl rfl) (by decide) rfl (fun ls hl => ?_)
                  refine lv_goto (tgt := 37) hx hb dX4_night_97 (by decide) ?_
                  exact ih37  (q + 1) (mup (mup τ2 (45 + 3 * q) 0 0) (45 + 3 * q) 3 (nI (dy + 1))) (by omega) (by rw [hotF, ← hτ2, hot1, ← hh2, if_neg c_5, if_pos (Int32.not_le.mp c_6)]) ((hF2.mup (by omega) (by omega) (by omega)).mup (by omega) (by omega) (by omega)) ((mup_ne1 (by omega)).trans ((mup_ne1 (by omega)).trans hd2)) ((mup_ne1 (by omega)).trans ((mup_ne1 (by omega)).trans hh2)) (by omega) _ _ hP hS ls (lv_sub hl [0, 2] rfl)
        exact lp37 (np - 0 + 1) 0 (mup τ 2 4 (nI (dy + 1))) (by omega) (by rw [hτ, show p = np by omega]; rfl) (xFk.mup hF1 (by omega) (by omega) (by omega)) (mup_self _ _ _ _) ((mup_ne1 (by omega)).trans hh1) (by omega) _ _ hP hS ls (lv_sub hl [0, 1] rfl)
      · have nc_1 : p < np := mi_nle hF1.1 rfl (by omega) (by omega) c_1
        have h8p := h8 p (by omega)
        refine lv_aload_n hx hb dX4_night_10 rfl (lv_at hl 1 rfl) ?_
        refine mg_ref hx hb hts in_X4 hown hE hP 2 (xl_n hA (by decide)) rfl rfl 0 rfl (by decide) (hts _ q144) (fun _ h9 => h9) dX4_night_11 ?_
        refine lv_iload_n hx hb dX4_night_14 rfl (lv_at hl 0 rfl) ?_
        refine mg_ald hx hb hE hP 5 (xl_n hA (by decide)) rfl rfl p (by omega) rfl (by decide) rfl dX4_night_15 ?_
        refine va_callv (va_runV (As := []) (rest := []) ⟨hx, hb, hml, hown, hts⟩ (mt_X5_night l D dA rr xs ad N hA τ (45 + 3 * p) (xw_p1 (p := p) (by omega)) (nc p) (xFk.mm hF1 (b := 45) rfl (by omega)) (by omega) (ld p) (xFk.ll hF1 (b := 45) rfl (by omega))) (cwV 0 hts (lw_V q489 q490 q491 q50 q492) rfl rfl rfl (by decide +kernel) ⟨Nat.le_of_ble_eq_true rfl, Nat.le_of_ble_eq_true rfl⟩) ⟨mPre.blind, m_recv hE hP (45 + 3 * p) (xl_o hA (xw_p1 (p := p) (by omega))) (shX_o (xw_p1 (p := p) (by omega))) rfl, mPre.at hE hP⟩ rfl rfl hl.1 rfl (lv_room (Nat.le_of_ble_eq_true rfl)) dX4_night_16 ⟨Nat.le_of_ble_eq_true rfl, Nat.le_of_ble_eq_true rfl⟩) hS (fun q _ h => h) (fun q h => h) (fun ur_7 tr_7 H locs ht h0 hr_7 hB h1 h2 hS => ?_)
        subst hr_7
        have hP := mB.get ht hB
        refine lv_iinc (v := (nI (p + 1))) (lv' := [(1, .int (nI (p + 1))), (0, .ref (ad 2))]) hx hb dX4_night_19 hl (k := 0) rfl (mi_add rfl rfl) (by decide) rfl (fun ls hl => ?_)
        refine lv_goto (tgt := 2) hx hb dX4_night_22 (by decide) ?_
        exact ih2  (p + 1) (ngt τ (45 + 3 * p) (nc p) (ld p)) (by omega) (by rw [hτ]; rfl) (xFk_ngt hF1 (b := 45) rfl (by omega)) ((ngt_ne (by omega) (by omega)).trans hday) ((ngt_ne (by omega) (by omega)).trans hh1) (by omega) _ _ hP hS ls (lv_sub hl [0, 1] rfl)
  exact lp2 (np - 0 + 1) 0 σ (by omega) rfl hF hdy0 rfl (by omega) _ _ hP hS ls (lv_sub hl [0, 1] rfl)
set_option maxHeartbeats 4000000 in
set_option maxRecDepth 100000 in
theorem mt_X4_takeFrom_10 (l : Launch) (D : va_G) (dA : Nat → ClassId) (rr : Nat → Option Nat) (xs : Nat → mSh) (ad : Nat → Nat) (N : Nat) (hA : xA ad N) (σ : mMem)  : Met l yX4_takeFrom (ws_ yX4_takeFrom cX4_takeFrom 3 none) ({ frames := 2, cells := 0, slots := 0, locals := 81 }) (va_Pc [.ref (ad 2), .ref (ad 1)] (mPre D dA (shX rr xs) ad N σ)) (va_Qv (fun (u : mMem) => u = tkW σ 1 0) (mB D dA (shX rr xs) ad N) (mAd ad N)) 0 0 (mAd ad N) := by
  refine Met.ofW (cc := cX4_takeFrom) (maxL := 3) (ret := none) (by decide) rfl ?_
  intro pp ee ss mm args below meth cd s₁ B hml hv
  obtain ⟨rfl, hP, hE⟩ := hv
  have hx := B.exec
  have hb := B.bytes
  have hr := B.returns
  have hts := atoms_spec (ws := ws_ yX4_takeFrom cX4_takeFrom 3 none) B.pre
  have hts : ∀ w ∈ lw_all, w.before _ ss = true := fun w h => hts w (List.mem_cons_of_mem _ h)
  have hown : ss.vm.findClass RX4 = some mm.cls := findClass_of_methodNamed B.named
  have hlocks := B.notSynchronized
  have hD := hA.2.self
  have hS : va_S (mAd ad N) ss.heap ss.heap [] := va_S.rf
  have hNN := hA.1
  have hl := lv_entry ([.ref (ad 2), .ref (ad 1)]) (n := 3) (Nat.le_of_ble_eq_true rfl)
  rw [lg_entry_eq]
  generalize (lg_sl ([.ref (ad 2), .ref (ad 1)]) ++ List.replicate (3 - (lg_sl ([.ref (ad 2), .ref (ad 1)])).length) Slot.unset).toArray = ls at hl ⊢
  have hl : lv_has ls 3 [(0, .ref (ad 2)), (1, .ref (ad 1))] := hl
  refine lv_iconst (v := 0) hx hb dX4_takeFrom_0 (by decide) ?_
  refine lv_istore_n (lv' := [(2, .int 0), (0, .ref (ad 2)), (1, .ref (ad 1))]) hx hb dX4_takeFrom_1 rfl hl (by decide) rfl (fun ls hl => ?_)
  have lp2 : ∀ (fu : Nat) (c : Nat) (_ : c ≤ 5) (_ : 5 - c < fu) (H : Heap) (locs : List Loc) (_ : va_P D xCl (mW dA (shX rr xs) ad N (tkA σ 45 30 c)) H) (_ : va_S (mAd ad N) ss.heap H locs) (ls : Array Slot) (_ : lv_has ls 3 [(2, .int (nI c)), (0, .ref (ad 2)), (1, .ref (ad 1))]), W pp l ee (headSpec (ws_ yX4_takeFrom cX4_takeFrom 3 none) ({ frames := 2, cells := 0, slots := 0, locals := 81 })).room ss mm ([.ref (ad 2), .ref (ad 1)] : List Value).toArray below meth cd H locs 0 0 (MQ below (va_Qv (fun (u : mMem) => u = tkW σ 1 0) (mB D dA (shX rr xs) ad N) (mAd ad N)) ([.ref (ad 2), .ref (ad 1)] : List Value).toArray ss 0 0 (mAd ad N)) (F0 mm 2 ls []) := by
    intro fu
    induction fu with
    | zero => intro c hc hfu; exact absurd hfu (Nat.not_lt_zero _)
    | succ fu ih2 =>
      intro c hc hfu H locs hP hS ls hl
      refine lv_iload_n hx hb dX4_takeFrom_2 rfl (lv_at hl 0 rfl) ?_
      refine lv_iconst (v := 5) hx hb dX4_takeFrom_3 (by decide) ?_
      refine lv_icmp_ge (tgt := 28) hx hb dX4_takeFrom_4 (by decide) (fun c_1 => ?_) (fun c_1 => ?_)
      · have nc_1 : 5 ≤ c := mi_le rfl rfl (by omega) (by omega) c_1
        refine lv_aload_n hx hb dX4_takeFrom_28 rfl (lv_at hl 2 rfl) ?_
        refine mg_ref hx hb hts in_X4 hown hE hP 1 (xl_n hA (by decide)) rfl rfl 1 rfl (by decide) (hts _ q146) (fun _ h9 => h9) dX4_takeFrom_29 ?_
        refine lv_iconst (v := 0) hx hb dX4_takeFrom_32 (by decide) ?_
        refine lv_aload_n hx hb dX4_takeFrom_33 rfl (lv_at hl 1 rfl) ?_
        refine mg_ref hx hb hts in_X4 hown hE hP 2 (xl_n hA (by decide)) rfl rfl 1 rfl (by decide) (hts _ q146) (fun _ h9 => h9) dX4_takeFrom_34 ?_
        refine lv_iconst (v := 0) hx hb dX4_takeFrom_37 (by decide) ?_
        refine lv_bipush (v := 12) hx hb dX4_takeFrom_38 (by decide) ?_
        refine mg_cpy hx hb (by rw [hml]; exact hl.1.symm) hown (hts _ q602) (hts _ q445) (hts _ q444) (hts _ q57) hE hD hP hS 7 8 (xl_n hA (by decide)) (xl_n hA (by decide)) rfl rfl 0 0 12 rfl rfl rfl (by omega) (by omega) (by decide) (by decide) (Nat.le_of_ble_eq_true rfl) (Nat.le_of_ble_eq_true rfl) dX4_takeFrom_40 (fun H locs hP hS => ?_)
        refine lv_aload_n hx hb dX4_takeFrom_43 rfl (lv_at hl 2 rfl) ?_
        refine mg_ref hx hb hts in_X4 hown hE hP 1 (xl_n hA (by decide)) rfl rfl 2 rfl (by decide) (hts _ q148) (fun _ h9 => h9) dX4_takeFrom_44 ?_
        refine lv_iconst (v := 0) hx hb dX4_takeFrom_47 (by decide) ?_
        refine lv_aload_n hx hb dX4_takeFrom_48 rfl (lv_at hl 1 rfl) ?_
        refine mg_ref hx hb hts in_X4 hown hE hP 2 (xl_n hA (by decide)) rfl rfl 2 rfl (by decide) (hts _ q148) (fun _ h9 => h9) dX4_takeFrom_49 ?_
        refine lv_iconst (v := 0) hx hb dX4_takeFrom_52 (by decide) ?_
        refine lv_iconst (v := 2) hx hb dX4_takeFrom_53 (by decide) ?_
        refine mg_cpy hx hb (by rw [hml]; exact hl.1.symm) hown (hts _ q602) (hts _ q445) (hts _ q444) (hts _ q57) hE hD hP hS 10 11 (xl_n hA (by decide)) (xl_n hA (by decide)) rfl rfl 0 0 2 rfl rfl rfl (by omega) (by omega) (by decide) (by decide) (Nat.le_of_ble_eq_true rfl) (Nat.le_of_ble_eq_true rfl) dX4_takeFrom_54 (fun H locs hP hS => ?_)
        rw [show (va_up (tkA σ 45 30 c) 8 (va_cpy ((tkA σ 45 30 c) 7) ((tkA σ 45 30 c) 8) 0 0 12)) 10 = (tkA σ 45 30 c) 10 from va_up_ne _ _ (by omega)] at hP
        rw [show (va_up (tkA σ 45 30 c) 8 (va_cpy ((tkA σ 45 30 c) 7) ((tkA σ 45 30 c) 8) 0 0 12)) 11 = (tkA σ 45 30 c) 11 from va_up_ne _ _ (by omega)] at hP
        refine lv_aload_n hx hb dX4_takeFrom_57 rfl (lv_at hl 1 rfl) ?_
        refine lv_aload_n hx hb dX4_takeFrom_58 rfl (lv_at hl 2 rfl) ?_
        refine mg_get hx hb hts in_X4 hown hE hP 1 (xl_n hA (by decide)) rfl rfl 3 rfl (by decide) (hts _ q150) (fun _ h9 => h9) dX4_takeFrom_59 ?_
        refine lv_rwi ((mv_row (by omega)).trans (mv_row (by omega))) ?_
        refine mg_put (v := (tkA σ 45 30 c) 1 3) (ty := .int) hx hb hts in_X4 tyX4 tyX4_ok nmX4 hown hE hD hP hS 2 (xl_n hA (by decide)) rfl rfl 3 rfl (by decide) (hts _ q150) (fun _ h9 => h9) rfl (by decide +kernel) rfl rfl dX4_takeFrom_62 (fun H locs hP hS => ?_)
        refine lv_aload_n hx hb dX4_takeFrom_65 rfl (lv_at hl 1 rfl) ?_
        refine lv_aload_n hx hb dX4_takeFrom_66 rfl (lv_at hl 2 rfl) ?_
        refine mg_get hx hb hts in_X4 hown hE hP 1 (xl_n hA (by decide)) rfl rfl 4 rfl (by decide) (hts _ q152) (fun _ h9 => h9) dX4_takeFrom_67 ?_
        refine lv_rwi ((mup_ne1 (by omega)).trans ((mv_row (by omega)).trans (mv_row (by omega)))) ?_
        refine mg_put (v := (tkA σ 45 30 c) 1 4) (ty := .int) hx hb hts in_X4 tyX4 tyX4_ok nmX4 hown hE hD hP hS 2 (xl_n hA (by decide)) rfl rfl 4 rfl (by decide) (hts _ q152) (fun _ h9 => h9) rfl (by decide +kernel) rfl rfl dX4_takeFrom_70 (fun H locs hP hS => ?_)
        refine lv_aload_n hx hb dX4_takeFrom_73 rfl (lv_at hl 1 rfl) ?_
        refine lv_aload_n hx hb dX4_takeFrom_74 rfl (lv_at hl 2 rfl) ?_
        refine mg_get hx hb hts in_X4 hown hE hP 1 (xl_n hA (by decide)) rfl rfl 5 rfl (by decide) (hts _ q154) (fun _ h9 => h9) dX4_takeFrom_75 ?_
        refine lv_rwi ((mup_ne1 (by omega)).trans ((mup_ne1 (by omega)).trans ((mv_row (by omega)).trans (mv_row (by omega))))) ?_
        refine mg_put (v := (tkA σ 45 30 c) 1 5) (ty := .int) hx hb hts in_X4 tyX4 tyX4_ok nmX4 hown hE hD hP hS 2 (xl_n hA (by decide)) rfl rfl 5 rfl (by decide) (hts _ q154) (fun _ h9 => h9) rfl (by decide +kernel) rfl rfl dX4_takeFrom_78 (fun H locs hP hS => ?_)
        exact W.vret hx hb hr (fun t ht hW => ⟨⟨_, rfl, by rw [show c = 5 by omega]; rfl, mB.of ht hP⟩, hS.F ht⟩) hS.2.2 dX4_takeFrom_81
      · have nc_1 : c < 5 := mi_nle rfl rfl (by omega) (by omega) c_1
        refine lv_aload_n hx hb dX4_takeFrom_7 rfl (lv_at hl 1 rfl) ?_
        refine mg_ref hx hb hts in_X4 hown hE hP 2 (xl_n hA (by decide)) rfl rfl 0 rfl (by decide) (hts _ q144) (fun _ h9 => h9) dX4_takeFrom_8 ?_
        refine lv_iload_n hx hb dX4_takeFrom_11 rfl (lv_at hl 0 rfl) ?_
        refine mg_ald hx hb hE hP 5 (xl_n hA (by decide)) rfl rfl c (by omega) rfl (by decide) rfl dX4_takeFrom_12 ?_
        refine lv_aload_n hx hb dX4_takeFrom_13 rfl (lv_at hl 2 rfl) ?_
        refine mg_ref hx hb hts in_X4 hown hE hP 1 (xl_n hA (by decide)) rfl rfl 0 rfl (by decide) (hts _ q144) (fun _ h9 => h9) dX4_takeFrom_14 ?_
        refine lv_iload_n hx hb dX4_takeFrom_17 rfl (lv_at hl 0 rfl) ?_
        refine mg_ald hx hb hE hP 4 (xl_n hA (by decide)) rfl rfl c (by omega) rfl (by decide) rfl dX4_takeFrom_18 ?_
        refine va_callv (va_runV (As := [.ref (ad (30 + 3 * c))]) (rest := []) ⟨hx, hb, hml, hown, hts⟩ (mt_X5_takeFrom l D dA rr xs ad N hA (tkA σ 45 30 c) (45 + 3 * c) (xw_p1 (p := c) (by omega)) (30 + 3 * c) (xw_p0 (p := c) (by omega)) (by omega)) (cwV 1 hts (lw_V q601 q562 q563 q50 q564) rfl rfl rfl (by decide +kernel) ⟨Nat.le_of_ble_eq_true rfl, Nat.le_of_ble_eq_true rfl⟩) ⟨mPre.blind, m_recv hE hP (45 + 3 * c) (xl_o hA (xw_p1 (p := c) (by omega))) (shX_o (xw_p1 (p := c) (by omega))) rfl, mPre.at hE hP⟩ rfl rfl hl.1 rfl (lv_room (Nat.le_of_ble_eq_true rfl)) dX4_takeFrom_19 ⟨Nat.le_of_ble_eq_true rfl, Nat.le_of_ble_eq_true rfl⟩) hS (fun q _ h => h) (fun q h => h) (fun ur_2 tr_2 H locs ht h0 hr_2 hB h1 h2 hS => ?_)
        subst hr_2
        have hP := mB.get ht hB
        refine lv_iinc (v := (nI (c + 1))) (lv' := [(2, .int (nI (c + 1))), (0, .ref (ad 2)), (1, .ref (ad 1))]) hx hb dX4_takeFrom_22 hl (k := 0) rfl (mi_add rfl rfl) (by decide) rfl (fun ls hl => ?_)
        refine lv_goto (tgt := 2) hx hb dX4_takeFrom_25 (by decide) ?_
        exact ih2  (c + 1) (by omega) (by omega) _ _ (m_eq (rfl) hP) hS ls (lv_sub hl [0, 1, 2] rfl)
  exact lp2 (5 - 0 + 1) 0 (by omega) (by omega) _ _ (m_eq (rfl) hP) hS ls (lv_sub hl [0, 1, 2] rfl)
set_option maxHeartbeats 4000000 in
set_option maxRecDepth 100000 in
theorem mt_X4_takeFrom_20 (l : Launch) (D : va_G) (dA : Nat → ClassId) (rr : Nat → Option Nat) (xs : Nat → mSh) (ad : Nat → Nat) (N : Nat) (hA : xA ad N) (σ : mMem)  : Met l yX4_takeFrom (ws_ yX4_takeFrom cX4_takeFrom 3 none) ({ frames := 2, cells := 0, slots := 0, locals := 81 }) (va_Pc [.ref (ad 3), .ref (ad 1)] (mPre D dA (shX rr xs) ad N σ)) (va_Qv (fun (u : mMem) => u = tkW σ 2 0) (mB D dA (shX rr xs) ad N) (mAd ad N)) 0 0 (mAd ad N) := by
  refine Met.ofW (cc := cX4_takeFrom) (maxL := 3) (ret := none) (by decide) rfl ?_
  intro pp ee ss mm args below meth cd s₁ B hml hv
  obtain ⟨rfl, hP, hE⟩ := hv
  have hx := B.exec
  have hb := B.bytes
  have hr := B.returns
  have hts := atoms_spec (ws := ws_ yX4_takeFrom cX4_takeFrom 3 none) B.pre
  have hts : ∀ w ∈ lw_all, w.before _ ss = true := fun w h => hts w (List.mem_cons_of_mem _ h)
  have hown : ss.vm.findClass RX4 = some mm.cls := findClass_of_methodNamed B.named
  have hlocks := B.notSynchronized
  have hD := hA.2.self
  have hS : va_S (mAd ad N) ss.heap ss.heap [] := va_S.rf
  have hNN := hA.1
  have hl := lv_entry ([.ref (ad 3), .ref (ad 1)]) (n := 3) (Nat.le_of_ble_eq_true rfl)
  rw [lg_entry_eq]
  generalize (lg_sl ([.ref (ad 3), .ref (ad 1)]) ++ List.replicate (3 - (lg_sl ([.ref (ad 3), .ref (ad 1)])).length) Slot.unset).toArray = ls at hl ⊢
  have hl : lv_has ls 3 [(0, .ref (ad 3)), (1, .ref (ad 1))] := hl
  refine lv_iconst (v := 0) hx hb dX4_takeFrom_0 (by decide) ?_
  refine lv_istore_n (lv' := [(2, .int 0), (0, .ref (ad 3)), (1, .ref (ad 1))]) hx hb dX4_takeFrom_1 rfl hl (by decide) rfl (fun ls hl => ?_)
  have lp2 : ∀ (fu : Nat) (c : Nat) (_ : c ≤ 5) (_ : 5 - c < fu) (H : Heap) (locs : List Loc) (_ : va_P D xCl (mW dA (shX rr xs) ad N (tkA σ 60 30 c)) H) (_ : va_S (mAd ad N) ss.heap H locs) (ls : Array Slot) (_ : lv_has ls 3 [(2, .int (nI c)), (0, .ref (ad 3)), (1, .ref (ad 1))]), W pp l ee (headSpec (ws_ yX4_takeFrom cX4_takeFrom 3 none) ({ frames := 2, cells := 0, slots := 0, locals := 81 })).room ss mm ([.ref (ad 3), .ref (ad 1)] : List Value).toArray below meth cd H locs 0 0 (MQ below (va_Qv (fun (u : mMem) => u = tkW σ 2 0) (mB D dA (shX rr xs) ad N) (mAd ad N)) ([.ref (ad 3), .ref (ad 1)] : List Value).toArray ss 0 0 (mAd ad N)) (F0 mm 2 ls []) := by
    intro fu
    induction fu with
    | zero => intro c hc hfu; exact absurd hfu (Nat.not_lt_zero _)
    | succ fu ih2 =>
      intro c hc hfu H locs hP hS ls hl
      refine lv_iload_n hx hb dX4_takeFrom_2 rfl (lv_at hl 0 rfl) ?_
      refine lv_iconst (v := 5) hx hb dX4_takeFrom_3 (by decide) ?_
      refine lv_icmp_ge (tgt := 28) hx hb dX4_takeFrom_4 (by decide) (fun c_1 => ?_) (fun c_1 => ?_)
      · have nc_1 : 5 ≤ c := mi_le rfl rfl (by omega) (by omega) c_1
        refine lv_aload_n hx hb dX4_takeFrom_28 rfl (lv_at hl 2 rfl) ?_
        refine mg_ref hx hb hts in_X4 hown hE hP 1 (xl_n hA (by decide)) rfl rfl 1 rfl (by decide) (hts _ q146) (fun _ h9 => h9) dX4_takeFrom_29 ?_
        refine lv_iconst (v := 0) hx hb dX4_takeFrom_32 (by decide) ?_
        refine lv_aload_n hx hb dX4_takeFrom_33 rfl (lv_at hl 1 rfl) ?_
        refine mg_ref hx hb hts in_X4 hown hE hP 3 (xl_n hA (by decide)) rfl rfl 1 rfl (by decide) (hts _ q146) (fun _ h9 => h9) dX4_takeFrom_34 ?_
        refine lv_iconst (v := 0) hx hb dX4_takeFrom_37 (by decide) ?_
        refine lv_bipush (v := 12) hx hb dX4_takeFrom_38 (by decide) ?_
        refine mg_cpy hx hb (by rw [hml]; exact hl.1.symm) hown (hts _ q602) (hts _ q445) (hts _ q444) (hts _ q57) hE hD hP hS 7 9 (xl_n hA (by decide)) (xl_n hA (by decide)) rfl rfl 0 0 12 rfl rfl rfl (by omega) (by omega) (by decide) (by decide) (Nat.le_of_ble_eq_true rfl) (Nat.le_of_ble_eq_true rfl) dX4_takeFrom_40 (fun H locs hP hS => ?_)
        refine lv_aload_n hx hb dX4_takeFrom_43 rfl (lv_at hl 2 rfl) ?_
        refine mg_ref hx hb hts in_X4 hown hE hP 1 (xl_n hA (by decide)) rfl rfl 2 rfl (by decide) (hts _ q148) (fun _ h9 => h9) dX4_takeFrom_44 ?_
        refine lv_iconst (v := 0) hx hb dX4_takeFrom_47 (by decide) ?_
        refine lv_aload_n hx hb dX4_takeFrom_48 rfl (lv_at hl 1 rfl) ?_
        refine mg_ref hx hb hts in_X4 hown hE hP 3 (xl_n hA (by decide)) rfl rfl 2 rfl (by decide) (hts _ q148) (fun _ h9 => h9) dX4_takeFrom_49 ?_
        refine lv_iconst (v := 0) hx hb dX4_takeFrom_52 (by decide) ?_
        refine lv_iconst (v := 2) hx hb dX4_takeFrom_53 (by decide) ?_
        refine mg_cpy hx hb (by rw [hml]; exact hl.1.symm) hown (hts _ q602) (hts _ q445) (hts _ q444) (hts _ q57) hE hD hP hS 10 12 (xl_n hA (by decide)) (xl_n hA (by decide)) rfl rfl 0 0 2 rfl rfl rfl (by omega) (by omega) (by decide) (by decide) (Nat.le_of_ble_eq_true rfl) (Nat.le_of_ble_eq_true rfl) dX4_takeFrom_54 (fun H locs hP hS => ?_)
        rw [show (va_up (tkA σ 60 30 c) 9 (va_cpy ((tkA σ 60 30 c) 7) ((tkA σ 60 30 c) 9) 0 0 12)) 10 = (tkA σ 60 30 c) 10 from va_up_ne _ _ (by omega)] at hP
        rw [show (va_up (tkA σ 60 30 c) 9 (va_cpy ((tkA σ 60 30 c) 7) ((tkA σ 60 30 c) 9) 0 0 12)) 12 = (tkA σ 60 30 c) 12 from va_up_ne _ _ (by omega)] at hP
        refine lv_aload_n hx hb dX4_takeFrom_57 rfl (lv_at hl 1 rfl) ?_
        refine lv_aload_n hx hb dX4_takeFrom_58 rfl (lv_at hl 2 rfl) ?_
        refine mg_get hx hb hts in_X4 hown hE hP 1 (xl_n hA (by decide)) rfl rfl 3 rfl (by decide) (hts _ q150) (fun _ h9 => h9) dX4_takeFrom_59 ?_
        refine lv_rwi ((mv_row (by omega)).trans (mv_row (by omega))) ?_
        refine mg_put (v := (tkA σ 60 30 c) 1 3) (ty := .int) hx hb hts in_X4 tyX4 tyX4_ok nmX4 hown hE hD hP hS 3 (xl_n hA (by decide)) rfl rfl 3 rfl (by decide) (hts _ q150) (fun _ h9 => h9) rfl (by decide +kernel) rfl rfl dX4_takeFrom_62 (fun H locs hP hS => ?_)
        refine lv_aload_n hx hb dX4_takeFrom_65 rfl (lv_at hl 1 rfl) ?_
        refine lv_aload_n hx hb dX4_takeFrom_66 rfl (lv_at hl 2 rfl) ?_
        refine mg_get hx hb hts in_X4 hown hE hP 1 (xl_n hA (by decide)) rfl rfl 4 rfl (by decide) (hts _ q152) (fun _ h9 => h9) dX4_takeFrom_67 ?_
        refine lv_rwi ((mup_ne1 (by omega)).trans ((mv_row (by omega)).trans (mv_row (by omega)))) ?_
        refine mg_put (v := (tkA σ 60 30 c) 1 4) (ty := .int) hx hb hts in_X4 tyX4 tyX4_ok nmX4 hown hE hD hP hS 3 (xl_n hA (by decide)) rfl rfl 4 rfl (by decide) (hts _ q152) (fun _ h9 => h9) rfl (by decide +kernel) rfl rfl dX4_takeFrom_70 (fun H locs hP hS => ?_)
        refine lv_aload_n hx hb dX4_takeFrom_73 rfl (lv_at hl 1 rfl) ?_
        refine lv_aload_n hx hb dX4_takeFrom_74 rfl (lv_at hl 2 rfl) ?_
        refine mg_get hx hb hts in_X4 hown hE hP 1 (xl_n hA (by decide)) rfl rfl 5 rfl (by decide) (hts _ q154) (fun _ h9 => h9) dX4_takeFrom_75 ?_
        refine lv_rwi ((mup_ne1 (by omega)).trans ((mup_ne1 (by omega)).trans ((mv_row (by omega)).trans (mv_row (by omega))))) ?_
        refine mg_put (v := (tkA σ 60 30 c) 1 5) (ty := .int) hx hb hts in_X4 tyX4 tyX4_ok nmX4 hown hE hD hP hS 3 (xl_n hA (by decide)) rfl rfl 5 rfl (by decide) (hts _ q154) (fun _ h9 => h9) rfl (by decide +kernel) rfl rfl dX4_takeFrom_78 (fun H locs hP hS => ?_)
        exact W.vret hx hb hr (fun t ht hW => ⟨⟨_, rfl, by rw [show c = 5 by omega]; rfl, mB.of ht hP⟩, hS.F ht⟩) hS.2.2 dX4_takeFrom_81
      · have nc_1 : c < 5 := mi_nle rfl rfl (by omega) (by omega) c_1
        refine lv_aload_n hx hb dX4_takeFrom_7 rfl (lv_at hl 1 rfl) ?_
        refine mg_ref hx hb hts in_X4 hown hE hP 3 (xl_n hA (by decide)) rfl rfl 0 rfl (by decide) (hts _ q144) (fun _ h9 => h9) dX4_takeFrom_8 ?_
        refine lv_iload_n hx hb dX4_takeFrom_11 rfl (lv_at hl 0 rfl) ?_
        refine mg_ald hx hb hE hP 6 (xl_n hA (by decide)) rfl rfl c (by omega) rfl (by decide) rfl dX4_takeFrom_12 ?_
        refine lv_aload_n hx hb dX4_takeFrom_13 rfl (lv_at hl 2 rfl) ?_
        refine mg_ref hx hb hts in_X4 hown hE hP 1 (xl_n hA (by decide)) rfl rfl 0 rfl (by decide) (hts _ q144) (fun _ h9 => h9) dX4_takeFrom_14 ?_
        refine lv_iload_n hx hb dX4_takeFrom_17 rfl (lv_at hl 0 rfl) ?_
        refine mg_ald hx hb hE hP 4 (xl_n hA (by decide)) rfl rfl c (by omega) rfl (by decide) rfl dX4_takeFrom_18 ?_
        refine va_callv (va_runV (As := [.ref (ad (30 + 3 * c))]) (rest := []) ⟨hx, hb, hml, hown, hts⟩ (mt_X5_takeFrom l D dA rr xs ad N hA (tkA σ 60 30 c) (60 + 3 * c) (xw_p2 (p := c) (by omega)) (30 + 3 * c) (xw_p0 (p := c) (by omega)) (by omega)) (cwV 1 hts (lw_V q601 q562 q563 q50 q564) rfl rfl rfl (by decide +kernel) ⟨Nat.le_of_ble_eq_true rfl, Nat.le_of_ble_eq_true rfl⟩) ⟨mPre.blind, m_recv hE hP (60 + 3 * c) (xl_o hA (xw_p2 (p := c) (by omega))) (shX_o (xw_p2 (p := c) (by omega))) rfl, mPre.at hE hP⟩ rfl rfl hl.1 rfl (lv_room (Nat.le_of_ble_eq_true rfl)) dX4_takeFrom_19 ⟨Nat.le_of_ble_eq_true rfl, Nat.le_of_ble_eq_true rfl⟩) hS (fun q _ h => h) (fun q h => h) (fun ur_2 tr_2 H locs ht h0 hr_2 hB h1 h2 hS => ?_)
        subst hr_2
        have hP := mB.get ht hB
        refine lv_iinc (v := (nI (c + 1))) (lv' := [(2, .int (nI (c + 1))), (0, .ref (ad 3)), (1, .ref (ad 1))]) hx hb dX4_takeFrom_22 hl (k := 0) rfl (mi_add rfl rfl) (by decide) rfl (fun ls hl => ?_)
        refine lv_goto (tgt := 2) hx hb dX4_takeFrom_25 (by decide) ?_
        exact ih2  (c + 1) (by omega) (by omega) _ _ (m_eq (rfl) hP) hS ls (lv_sub hl [0, 1, 2] rfl)
  exact lp2 (5 - 0 + 1) 0 (by omega) (by omega) _ _ (m_eq (rfl) hP) hS ls (lv_sub hl [0, 1, 2] rfl)
set_option maxHeartbeats 4000000 in
set_option maxRecDepth 100000 in
theorem mt_X4_takeFrom_02 (l : Launch) (D : va_G) (dA : Nat → ClassId) (rr : Nat → Option Nat) (xs : Nat → mSh) (ad : Nat → Nat) (N : Nat) (hA : xA ad N) (σ : mMem)  : Met l yX4_takeFrom (ws_ yX4_takeFrom cX4_takeFrom 3 none) ({ frames := 2, cells := 0, slots := 0, locals := 81 }) (va_Pc [.ref (ad 1), .ref (ad 3)] (mPre D dA (shX rr xs) ad N σ)) (va_Qv (fun (u : mMem) => u = tkW σ 0 2) (mB D dA (shX rr xs) ad N) (mAd ad N)) 0 0 (mAd ad N) := by
  refine Met.ofW (cc := cX4_takeFrom) (maxL := 3) (ret := none) (by decide) rfl ?_
  intro pp ee ss mm args below meth cd s₁ B hml hv
  obtain ⟨rfl, hP, hE⟩ := hv
  have hx := B.exec
  have hb := B.bytes
  have hr := B.returns
  have hts := atoms_spec (ws := ws_ yX4_takeFrom cX4_takeFrom 3 none) B.pre
  have hts : ∀ w ∈ lw_all, w.before _ ss = true := fun w h => hts w (List.mem_cons_of_mem _ h)
  have hown : ss.vm.findClass RX4 = some mm.cls := findClass_of_methodNamed B.named
  have hlocks := B.notSynchronized
  have hD := hA.2.self
  have hS : va_S (mAd ad N) ss.heap ss.heap [] := va_S.rf
  have hNN := hA.1
  have hl := lv_entry ([.ref (ad 1), .ref (ad 3)]) (n := 3) (Nat.le_of_ble_eq_true rfl)
  rw [lg_entry_eq]
  generalize (lg_sl ([.ref (ad 1), .ref (ad 3)]) ++ List.replicate (3 - (lg_sl ([.ref (ad 1), .ref (ad 3)])).length) Slot.unset).toArray = ls at hl ⊢
  have hl : lv_has ls 3 [(0, .ref (ad 1)), (1, .ref (ad 3))] := hl
  refine lv_iconst (v := 0) hx hb dX4_takeFrom_0 (by decide) ?_
  refine lv_istore_n (lv' := [(2, .int 0), (0, .ref (ad 1)), (1, .ref (ad 3))]) hx hb dX4_takeFrom_1 rfl hl (by decide) rfl (fun ls hl => ?_)
  have lp2 : ∀ (fu : Nat) (c : Nat) (_ : c ≤ 5) (_ : 5 - c < fu) (H : Heap) (locs : List Loc) (_ : va_P D xCl (mW dA (shX rr xs) ad N (tkA σ 30 60 c)) H) (_ : va_S (mAd ad N) ss.heap H locs) (ls : Array Slot) (_ : lv_has ls 3 [(2, .int (nI c)), (0, .ref (ad 1)), (1, .ref (ad 3))]), W pp l ee (headSpec (ws_ yX4_takeFrom cX4_takeFrom 3 none) ({ frames := 2, cells := 0, slots := 0, locals := 81 })).room ss mm ([.ref (ad 1), .ref (ad 3)] : List Value).toArray below meth cd H locs 0 0 (MQ below (va_Qv (fun (u : mMem) => u = tkW σ 0 2) (mB D dA (shX rr xs) ad N) (mAd ad N)) ([.ref (ad 1), .ref (ad 3)] : List Value).toArray ss 0 0 (mAd ad N)) (F0 mm 2 ls []) := by
    intro fu
    induction fu with
    | zero => intro c hc hfu; exact absurd hfu (Nat.not_lt_zero _)
    | succ fu ih2 =>
      intro c hc hfu H locs hP hS ls hl
      refine lv_iload_n hx hb dX4_takeFrom_2 rfl (lv_at hl 0 rfl) ?_
      refine lv_iconst (v := 5) hx hb dX4_takeFrom_3 (by decide) ?_
      refine lv_icmp_ge (tgt := 28) hx hb dX4_takeFrom_4 (by decide) (fun c_1 => ?_) (fun c_1 => ?_)
      · have nc_1 : 5 ≤ c := mi_le rfl rfl (by omega) (by omega) c_1
        refine lv_aload_n hx hb dX4_takeFrom_28 rfl (lv_at hl 2 rfl) ?_
        refine mg_ref hx hb hts in_X4 hown hE hP 3 (xl_n hA (by decide)) rfl rfl 1 rfl (by decide) (hts _ q146) (fun _ h9 => h9) dX4_takeFrom_29 ?_
        refine lv_iconst (v := 0) hx hb dX4_takeFrom_32 (by decide) ?_
        refine lv_aload_n hx hb dX4_takeFrom_33 rfl (lv_at hl 1 rfl) ?_
        refine mg_ref hx hb hts in_X4 hown hE hP 1 (xl_n hA (by decide)) rfl rfl 1 rfl (by decide) (hts _ q146) (fun _ h9 => h9) dX4_takeFrom_34 ?_
        refine lv_iconst (v := 0) hx hb dX4_takeFrom_37 (by decide) ?_
        refine lv_bipush (v := 12) hx hb dX4_takeFrom_38 (by decide) ?_
        refine mg_cpy hx hb (by rw [hml]; exact hl.1.symm) hown (hts _ q602) (hts _ q445) (hts _ q444) (hts _ q57) hE hD hP hS 9 7 (xl_n hA (by decide)) (xl_n hA (by decide)) rfl rfl 0 0 12 rfl rfl rfl (by omega) (by omega) (by decide) (by decide) (Nat.le_of_ble_eq_true rfl) (Nat.le_of_ble_eq_true rfl) dX4_takeFrom_40 (fun H locs hP hS => ?_)
        refine lv_aload_n hx hb dX4_takeFrom_43 rfl (lv_at hl 2 rfl) ?_
        refine mg_ref hx hb hts in_X4 hown hE hP 3 (xl_n hA (by decide)) rfl rfl 2 rfl (by decide) (hts _ q148) (fun _ h9 => h9) dX4_takeFrom_44 ?_
        refine lv_iconst (v := 0) hx hb dX4_takeFrom_47 (by decide) ?_
        refine lv_aload_n hx hb dX4_takeFrom_48 rfl (lv_at hl 1 rfl) ?_
        refine mg_ref hx hb hts in_X4 hown hE hP 1 (xl_n hA (by decide)) rfl rfl 2 rfl (by decide) (hts _ q148) (fun _ h9 => h9) dX4_takeFrom_49 ?_
        refine lv_iconst (v := 0) hx hb dX4_takeFrom_52 (by decide) ?_
        refine lv_iconst (v := 2) hx hb dX4_takeFrom_53 (by decide) ?_
        refine mg_cpy hx hb (by rw [hml]; exact hl.1.symm) hown (hts _ q602) (hts _ q445) (hts _ q444) (hts _ q57) hE hD hP hS 12 10 (xl_n hA (by decide)) (xl_n hA (by decide)) rfl rfl 0 0 2 rfl rfl rfl (by omega) (by omega) (by decide) (by decide) (Nat.le_of_ble_eq_true rfl) (Nat.le_of_ble_eq_true rfl) dX4_takeFrom_54 (fun H locs hP hS => ?_)
        rw [show (va_up (tkA σ 30 60 c) 7 (va_cpy ((tkA σ 30 60 c) 9) ((tkA σ 30 60 c) 7) 0 0 12)) 12 = (tkA σ 30 60 c) 12 from va_up_ne _ _ (by omega)] at hP
        rw [show (va_up (tkA σ 30 60 c) 7 (va_cpy ((tkA σ 30 60 c) 9) ((tkA σ 30 60 c) 7) 0 0 12)) 10 = (tkA σ 30 60 c) 10 from va_up_ne _ _ (by omega)] at hP
        refine lv_aload_n hx hb dX4_takeFrom_57 rfl (lv_at hl 1 rfl) ?_
        refine lv_aload_n hx hb dX4_takeFrom_58 rfl (lv_at hl 2 rfl) ?_
        refine mg_get hx hb hts in_X4 hown hE hP 3 (xl_n hA (by decide)) rfl rfl 3 rfl (by decide) (hts _ q150) (fun _ h9 => h9) dX4_takeFrom_59 ?_
        refine lv_rwi ((mv_row (by omega)).trans (mv_row (by omega))) ?_
        refine mg_put (v := (tkA σ 30 60 c) 3 3) (ty := .int) hx hb hts in_X4 tyX4 tyX4_ok nmX4 hown hE hD hP hS 1 (xl_n hA (by decide)) rfl rfl 3 rfl (by decide) (hts _ q150) (fun _ h9 => h9) rfl (by decide +kernel) rfl rfl dX4_takeFrom_62 (fun H locs hP hS => ?_)
        refine lv_aload_n hx hb dX4_takeFrom_65 rfl (lv_at hl 1 rfl) ?_
        refine lv_aload_n hx hb dX4_takeFrom_66 rfl (lv_at hl 2 rfl) ?_
        refine mg_get hx hb hts in_X4 hown hE hP 3 (xl_n hA (by decide)) rfl rfl 4 rfl (by decide) (hts _ q152) (fun _ h9 => h9) dX4_takeFrom_67 ?_
        refine lv_rwi ((mup_ne1 (by omega)).trans ((mv_row (by omega)).trans (mv_row (by omega)))) ?_
        refine mg_put (v := (tkA σ 30 60 c) 3 4) (ty := .int) hx hb hts in_X4 tyX4 tyX4_ok nmX4 hown hE hD hP hS 1 (xl_n hA (by decide)) rfl rfl 4 rfl (by decide) (hts _ q152) (fun _ h9 => h9) rfl (by decide +kernel) rfl rfl dX4_takeFrom_70 (fun H locs hP hS => ?_)
        refine lv_aload_n hx hb dX4_takeFrom_73 rfl (lv_at hl 1 rfl) ?_
        refine lv_aload_n hx hb dX4_takeFrom_74 rfl (lv_at hl 2 rfl) ?_
        refine mg_get hx hb hts in_X4 hown hE hP 3 (xl_n hA (by decide)) rfl rfl 5 rfl (by decide) (hts _ q154) (fun _ h9 => h9) dX4_takeFrom_75 ?_
        refine lv_rwi ((mup_ne1 (by omega)).trans ((mup_ne1 (by omega)).trans ((mv_row (by omega)).trans (mv_row (by omega))))) ?_
        refine mg_put (v := (tkA σ 30 60 c) 3 5) (ty := .int) hx hb hts in_X4 tyX4 tyX4_ok nmX4 hown hE hD hP hS 1 (xl_n hA (by decide)) rfl rfl 5 rfl (by decide) (hts _ q154) (fun _ h9 => h9) rfl (by decide +kernel) rfl rfl dX4_takeFrom_78 (fun H locs hP hS => ?_)
        exact W.vret hx hb hr (fun t ht hW => ⟨⟨_, rfl, by rw [show c = 5 by omega]; rfl, mB.of ht hP⟩, hS.F ht⟩) hS.2.2 dX4_takeFrom_81
      · have nc_1 : c < 5 := mi_nle rfl rfl (by omega) (by omega) c_1
        refine lv_aload_n hx hb dX4_takeFrom_7 rfl (lv_at hl 1 rfl) ?_
        refine mg_ref hx hb hts in_X4 hown hE hP 1 (xl_n hA (by decide)) rfl rfl 0 rfl (by decide) (hts _ q144) (fun _ h9 => h9) dX4_takeFrom_8 ?_
        refine lv_iload_n hx hb dX4_takeFrom_11 rfl (lv_at hl 0 rfl) ?_
        refine mg_ald hx hb hE hP 4 (xl_n hA (by decide)) rfl rfl c (by omega) rfl (by decide) rfl dX4_takeFrom_12 ?_
        refine lv_aload_n hx hb dX4_takeFrom_13 rfl (lv_at hl 2 rfl) ?_
        refine mg_ref hx hb hts in_X4 hown hE hP 3 (xl_n hA (by decide)) rfl rfl 0 rfl (by decide) (hts _ q144) (fun _ h9 => h9) dX4_takeFrom_14 ?_
        refine lv_iload_n hx hb dX4_takeFrom_17 rfl (lv_at hl 0 rfl) ?_
        refine mg_ald hx hb hE hP 6 (xl_n hA (by decide)) rfl rfl c (by omega) rfl (by decide) rfl dX4_takeFrom_18 ?_
        refine va_callv (va_runV (As := [.ref (ad (60 + 3 * c))]) (rest := []) ⟨hx, hb, hml, hown, hts⟩ (mt_X5_takeFrom l D dA rr xs ad N hA (tkA σ 30 60 c) (30 + 3 * c) (xw_p0 (p := c) (by omega)) (60 + 3 * c) (xw_p2 (p := c) (by omega)) (by omega)) (cwV 1 hts (lw_V q601 q562 q563 q50 q564) rfl rfl rfl (by decide +kernel) ⟨Nat.le_of_ble_eq_true rfl, Nat.le_of_ble_eq_true rfl⟩) ⟨mPre.blind, m_recv hE hP (30 + 3 * c) (xl_o hA (xw_p0 (p := c) (by omega))) (shX_o (xw_p0 (p := c) (by omega))) rfl, mPre.at hE hP⟩ rfl rfl hl.1 rfl (lv_room (Nat.le_of_ble_eq_true rfl)) dX4_takeFrom_19 ⟨Nat.le_of_ble_eq_true rfl, Nat.le_of_ble_eq_true rfl⟩) hS (fun q _ h => h) (fun q h => h) (fun ur_2 tr_2 H locs ht h0 hr_2 hB h1 h2 hS => ?_)
        subst hr_2
        have hP := mB.get ht hB
        refine lv_iinc (v := (nI (c + 1))) (lv' := [(2, .int (nI (c + 1))), (0, .ref (ad 1)), (1, .ref (ad 3))]) hx hb dX4_takeFrom_22 hl (k := 0) rfl (mi_add rfl rfl) (by decide) rfl (fun ls hl => ?_)
        refine lv_goto (tgt := 2) hx hb dX4_takeFrom_25 (by decide) ?_
        exact ih2  (c + 1) (by omega) (by omega) _ _ (m_eq (rfl) hP) hS ls (lv_sub hl [0, 1, 2] rfl)
  exact lp2 (5 - 0 + 1) 0 (by omega) (by omega) _ _ (m_eq (rfl) hP) hS ls (lv_sub hl [0, 1, 2] rfl)
