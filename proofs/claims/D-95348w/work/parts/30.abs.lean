theorem xw75 : xw 75 := ⟨by decide, by decide, by decide⟩
theorem xw78 : xw 78 := ⟨by decide, by decide, by decide⟩
theorem xw81 : xw 81 := ⟨by decide, by decide, by decide⟩
theorem xw84 : xw 84 := ⟨by decide, by decide, by decide⟩
/-! WEARERS AS VALUES: purse, income, taxes by lender, coats (lender, amount, rate, thick) -/
abbrev Coat : Type := Nat × Int32 × Int32 × Int32
abbrev AW : Type := Int32 × Int32 × (Nat → Int32) × List Coat
/-- an array holds the coats -/
def cR (f : Nat → Int32) (L : List Coat) : Prop := ∀ (c : Nat) (x : Coat), L[c]? = some x → f (4 * c) = nI x.1 ∧ f (4 * c + 1) = x.2.1 ∧ f (4 * c + 2) = x.2.2.1 ∧ f (4 * c + 3) = x.2.2.2
theorem cR.congr {f g : Nat → Int32} {L : List Coat} (h : cR f L) (he : ∀ k, k < 4 * L.length → g k = f k) : cR g L := by
  intro c x hx
  have hl := (List.getElem?_eq_some_iff.mp hx).1
  obtain ⟨h1, h2, h3, h4⟩ := h c x hx
  rw [he _ (by omega), he _ (by omega), he _ (by omega), he _ (by omega)]
  exact ⟨h1, h2, h3, h4⟩
theorem nco_at (f : Nat → Int32) (n k : Nat) : nco f n k = if k % 4 = 1 ∧ k / 4 < n then nam (f k) (f (k + 1)) else f k := by
  induction n generalizing k with
  | zero => rw [nco, if_neg (by omega)]
  | succ n ih =>
    rw [nco]
    by_cases h : k = 4 * n + 1
    · subst h
      rw [pk_us, if_pos (by omega), ih, ih, if_neg (by omega), if_neg (by omega)]
    · rw [pk_un h, ih]
      by_cases h2 : k % 4 = 1 ∧ k / 4 < n
      · rw [if_pos h2, if_pos (by omega)]
      · rw [if_neg h2, if_neg (by omega)]
def nCoat (x : Coat) : Coat := (x.1, nam x.2.1 x.2.2.1, x.2.2.1, x.2.2.2)
theorem cR.night {f : Nat → Int32} {L : List Coat} (h : cR f L) : cR (nco f L.length) (L.map nCoat) := by
  intro c x hx
  rw [List.getElem?_map] at hx
  cases hc : L[c]? with
  | none => rw [hc] at hx; cases hx
  | some y =>
    rw [hc] at hx
    cases hx
    have hl := (List.getElem?_eq_some_iff.mp hc).1
    obtain ⟨h1, h2, h3, h4⟩ := h c y hc
    rw [nco_at, nco_at, nco_at, nco_at, if_neg (by omega), if_pos (by omega), if_neg (by omega), if_neg (by omega)]
    exact ⟨h1, by rw [h2, h3]; rfl, h3, h4⟩
theorem cR.erase {f : Nat → Int32} {L : List Coat} (h : cR f L) {c : Nat} (hc : c < L.length) : cR (va_cpy f f (4 * (c + 1)) (4 * c) (4 * (L.length - 1 - c))) (L.eraseIdx c) := by
  intro i x hx
  rw [List.getElem?_eraseIdx] at hx
  by_cases hi : i < c
  · rw [if_pos hi] at hx
    obtain ⟨h1, h2, h3, h4⟩ := h i x hx
    rw [pk_cpy_out (by omega), pk_cpy_out (by omega), pk_cpy_out (by omega), pk_cpy_out (by omega)]
    exact ⟨h1, h2, h3, h4⟩
  · rw [if_neg hi] at hx
    have hl := (List.getElem?_eq_some_iff.mp hx).1
    obtain ⟨h1, h2, h3, h4⟩ := h (i + 1) x hx
    rw [pk_cpy_in (by omega) (by omega), pk_cpy_in (by omega) (by omega), pk_cpy_in (by omega) (by omega), pk_cpy_in (by omega) (by omega)]
    refine ⟨?_, ?_, ?_, ?_⟩
    · rw [← h1]; congr 1; omega
    · rw [← h2]; congr 1; omega
    · rw [← h3]; congr 1; omega
    · rw [← h4]; congr 1; omega
theorem cR.push {f g : Nat → Int32} {L : List Coat} (h : cR f L) (x : Coat) (h0 : g (4 * L.length) = nI x.1) (h1 : g (4 * L.length + 1) = x.2.1) (h2 : g (4 * L.length + 2) = x.2.2.1) (h3 : g (4 * L.length + 3) = x.2.2.2) (he : ∀ k, k < 4 * L.length → g k = f k) : cR g (L ++ [x]) := by
  intro c y hy
  by_cases hc : c < L.length
  · rw [List.getElem?_append_left hc] at hy
    exact (h.congr he) c y hy
  · rw [List.getElem?_append_right (by omega)] at hy
    have hl := (List.getElem?_eq_some_iff.mp hy).1
    have e : c = L.length := by simp at hl; omega
    subst e
    simp at hy
    subst hy
    exact ⟨h0, h1, h2, h3⟩
def aAsk (tx : Nat → Int32) : List Coat → Int32 → Int32
  | [], s => s
  | x :: L, s => aAsk tx L (s + tx x.1)
theorem nask_aAsk {tx : Nat → Int32} {ld : Nat → Nat} : ∀ (L : List Coat) (k : Nat), (∀ c x, L[c]? = some x → ld (k + c) = x.1) → aAsk tx L (nask tx ld k) = nask tx ld (k + L.length)
  | [], k, _ => rfl
  | x :: L, k, h => by
    have h0 : ld k = x.1 := h 0 x rfl
    have e : aAsk tx (x :: L) (nask tx ld k) = aAsk tx L (nask tx ld (k + 1)) := by
      show aAsk tx L (nask tx ld k + tx x.1) = aAsk tx L (nask tx ld k + tx (ld k))
      rw [h0]
    rw [e, nask_aAsk L (k + 1) (fun c y hy => by rw [show k + 1 + c = k + (c + 1) by omega]; exact h (c + 1) y hy)]
    congr 1
    simp only [List.length_cons]
    omega
theorem aAsk_congr {tx tx' : Nat → Int32} : ∀ (L : List Coat) (s : Int32), (∀ x ∈ L, tx x.1 = tx' x.1) → aAsk tx L s = aAsk tx' L s
  | [], _, _ => rfl
  | x :: L, s, h => by
    rw [aAsk, aAsk, h x List.mem_cons_self]
    exact aAsk_congr L _ (fun y hy => h y (List.mem_cons_of_mem _ hy))
/-- a wearer's night -/
def aNight (A : AW) : AW := (npu A.1 A.2.1 (aAsk A.2.2.1 A.2.2.2 0), A.2.1, A.2.2.1, A.2.2.2.map nCoat)
/-- a wearer in memory -/
def aR (σ : mMem) (w : Nat) (A : AW) : Prop := σ w 0 = A.1 ∧ σ w 1 = A.2.1 ∧ (∀ l, l < 5 → σ (w + 1) l = A.2.2.1 l) ∧ σ w 6 = nI A.2.2.2.length ∧ A.2.2.2.length ≤ 8 ∧ cR (σ (w + 2)) A.2.2.2 ∧ ∀ x ∈ A.2.2.2, x.1 < 5
theorem aR.n {σ : mMem} {w : Nat} {A : AW} (h : aR σ w A) : σ w 6 = nI A.2.2.2.length := h.2.2.2.1
theorem aR.n8 {σ : mMem} {w : Nat} {A : AW} (h : aR σ w A) : A.2.2.2.length ≤ 8 := h.2.2.2.2.1
theorem aR.keep {σ τ : mMem} {w : Nat} {A : AW} (h : aR σ w A) (h1 : ∀ b, τ w b = σ w b) (h2 : ∀ b, τ (w + 1) b = σ (w + 1) b) (h3 : ∀ b, τ (w + 2) b = σ (w + 2) b) : aR τ w A := by
  obtain ⟨a1, a2, a3, a4, a5, a6, a7⟩ := h
  exact ⟨(h1 0).trans a1, (h1 1).trans a2, fun l hl => (h2 l).trans (a3 l hl), (h1 6).trans a4, a5, a6.congr (fun k _ => h3 k), a7⟩
/-- the lender of coat c -/
def aLd (A : AW) (c : Nat) : Nat := (A.2.2.2.getD c (0, 0, 0, 0)).1
theorem aR.ld {σ : mMem} {w : Nat} {A : AW} (h : aR σ w A) : ∀ c, c < A.2.2.2.length → σ (w + 2) (4 * c) = nI (aLd A c) ∧ aLd A c < 5 := by
  intro c hc
  have e : A.2.2.2[c]? = some (A.2.2.2.getD c (0, 0, 0, 0)) := by
    rw [List.getD_eq_getElem?_getD, List.getElem?_eq_getElem hc]; rfl
  exact ⟨(h.2.2.2.2.2.1 c _ e).1, h.2.2.2.2.2.2 _ (List.mem_of_getElem? e)⟩
theorem aLd_at {A : AW} {c : Nat} {x : Coat} (h : A.2.2.2[c]? = some x) : aLd A c = x.1 := by
  unfold aLd
  rw [List.getD_eq_getElem?_getD, h]; rfl
theorem aR_tkf {σ : mMem} {w v : Nat} {A : AW} (h : aR σ v A) (hw : xw w) (hv : xw v) (hne : w ≠ v) : aR (tkf σ w v) w A := by
  obtain ⟨a1, a2, a3, a4, a5, a6, a7⟩ := h
  obtain ⟨w1, w2, w3⟩ := hw
  obtain ⟨v1, v2, v3⟩ := hv
  have r0 : ∀ b, tkf σ w v w b = (mup (mup (mup (mup (mup σ w 0 (σ v 0)) w 1 (σ v 1)) w 2 (σ v 2)) w 3 (σ v 3)) w 6 (σ v 6)) w b := fun b => by
    unfold tkf; rw [va_up_ne _ _ (by omega), va_up_ne _ _ (by omega)]
  have r1 : tkf σ w v (w + 1) = va_cpy (σ (v + 1)) (σ (w + 1)) 0 0 5 := by
    unfold tkf; rw [va_up_ne _ _ (by omega), va_up_self]
  have r2 : tkf σ w v (w + 2) = va_cpy (σ (v + 2)) (σ (w + 2)) 0 0 32 := by
    unfold tkf; rw [va_up_self]
  refine ⟨?_, ?_, fun l hl => ?_, ?_, a5, ?_, a7⟩
  · rw [r0, mup_ne2 (by omega), mup_ne2 (by omega), mup_ne2 (by omega), mup_ne2 (by omega), mup_self]; exact a1
  · rw [r0, mup_ne2 (by omega), mup_ne2 (by omega), mup_ne2 (by omega), mup_self]; exact a2
  · rw [r1, pk_cpy_in (by omega) (by omega), ← a3 l hl]; congr 1; omega
  · rw [r0, mup_self]; exact a4
  · rw [r2]
    exact a6.congr (fun k hk => by rw [pk_cpy_in (by omega) (by omega)]; congr 1; omega)
theorem tkf_ne {σ : mMem} {w v a b : Nat} (h0 : a ≠ w) (h1 : a ≠ w + 1) (h2 : a ≠ w + 2) : tkf σ w v a b = σ a b := by
  unfold tkf
  rw [mv_row h2, mv_row h1, mup_ne1 h0, mup_ne1 h0, mup_ne1 h0, mup_ne1 h0, mup_ne1 h0]
theorem rmv_ne {σ : mMem} {w n c a b : Nat} (h0 : a ≠ w) (h2 : a ≠ w + 2) : rmv σ w n c a b = σ a b := by
  unfold rmv
  rw [mv_row h2, mup_ne1 h0]
/-- coat c paid and off -/
def aPay (A : AW) (c : Nat) (x : Coat) : AW := (A.1 - x.2.1, A.2.1, A.2.2.1, A.2.2.2.eraseIdx c)
theorem rmv_w {σ : mMem} {w n c b : Nat} : rmv σ w n c w b = if b = 6 then nI (n - 1) else σ w b := by
  unfold rmv
  rw [mv_row (by omega), mup_at]
  by_cases h : b = 6
  · rw [if_pos ⟨rfl, h⟩, if_pos h]
  · rw [if_neg (fun q => h q.2), if_neg h]
theorem rmv_c {σ : mMem} {w n c : Nat} : rmv σ w n c (w + 2) = va_cpy (σ (w + 2)) (σ (w + 2)) (4 * (c + 1)) (4 * c) (4 * (n - 1 - c)) := by
  unfold rmv
  rw [va_up_self]
theorem aR_rmv {σ : mMem} {w : Nat} {A : AW} (h : aR σ w A) {c : Nat} (hc : c < A.2.2.2.length) : aR (rmv σ w A.2.2.2.length c) w (A.1, A.2.1, A.2.2.1, A.2.2.2.eraseIdx c) := by
  obtain ⟨a1, a2, a3, a4, a5, a6, a7⟩ := h
  have hl : (A.2.2.2.eraseIdx c).length = A.2.2.2.length - 1 := by rw [List.length_eraseIdx, if_pos hc]
  refine ⟨?_, ?_, fun l hl => ?_, ?_, ?_, ?_, fun x hx => a7 x (List.mem_of_mem_eraseIdx hx)⟩
  · rw [rmv_w, if_neg (by decide)]; exact a1
  · rw [rmv_w, if_neg (by decide)]; exact a2
  · rw [rmv_ne (by omega) (by omega)]; exact a3 l hl
  · rw [rmv_w, if_pos rfl]; show _ = nI (A.2.2.2.eraseIdx c).length; rw [hl]
  · show (A.2.2.2.eraseIdx c).length ≤ 8; omega
  · rw [rmv_c]; exact a6.erase hc
theorem aR_purse {σ : mMem} {w : Nat} {A : AW} (h : aR σ w A) (v : Int32) : aR (mup σ w 0 v) w (v, A.2.1, A.2.2.1, A.2.2.2) := by
  obtain ⟨a1, a2, a3, a4, a5, a6, a7⟩ := h
  refine ⟨mup_self _ _ _ _, (mup_ne2 (by decide)).trans a2, fun l hl => (mup_ne1 (by omega)).trans (a3 l hl), (mup_ne2 (by decide)).trans a4, a5, ?_, a7⟩
  rw [mup_row (by omega)]; exact a6
theorem aR_pay {σ : mMem} {w : Nat} {A : AW} (h : aR σ w A) {c : Nat} {x : Coat} (hx : A.2.2.2[c]? = some x) : aR (rmv (mup σ w 0 (σ w 0 - σ (w + 2) (4 * c + 1))) w A.2.2.2.length c) w (aPay A c x) := by
  have hc := (List.getElem?_eq_some_iff.mp hx).1
  have h1 := aR_rmv (aR_purse h (σ w 0 - σ (w + 2) (4 * c + 1))) hc
  rw [h.1, (h.2.2.2.2.2.1 c x hx).2.1] at h1 ⊢
  exact h1
theorem aR_night {σ : mMem} {w : Nat} {A : AW} (h : aR σ w A) : aR (ngt σ w A.2.2.2.length (aLd A)) w (aNight A) := by
  obtain ⟨a1, a2, a3, a4, a5, a6, a7⟩ := h
  have hask : nask (σ (w + 1)) (aLd A) A.2.2.2.length = aAsk A.2.2.1 A.2.2.2 0 := by
    rw [← aAsk_congr (tx := σ (w + 1)) A.2.2.2 0 (fun x hx => a3 _ (a7 x hx))]
    have := nask_aAsk (tx := σ (w + 1)) (ld := aLd A) A.2.2.2 0 (fun c x hx => by rw [Nat.zero_add]; exact aLd_at hx)
    rw [Nat.zero_add] at this
    exact this.symm
  refine ⟨?_, ?_, fun l hl => ?_, ?_, ?_, ?_, ?_⟩
  · unfold ngt
    rw [mup_self, hask, a1, a2]; rfl
  · rw [ngt_ne (by omega) (by omega)]; exact a2
  · rw [ngt_ne (by omega) (by omega)]; exact a3 l hl
  · rw [ngt_ne (by omega) (by omega)]; show _ = nI (A.2.2.2.map nCoat).length; rw [List.length_map]; exact a4
  · show (A.2.2.2.map nCoat).length ≤ 8; rw [List.length_map]; exact a5
  · have e : ngt σ w A.2.2.2.length (aLd A) (w + 2) = nco (σ (w + 2)) A.2.2.2.length := by funext b; exact ngt_c
    rw [e]; exact a6.night
  · intro x hx
    obtain ⟨y, hy, rfl⟩ := List.mem_map.mp hx
    exact a7 y hy
/-! payments by an order -/
/-- of the first k of the order, how many are below c -/
def cntO (ord : Nat → Nat) (c : Nat) : Nat → Nat
  | 0 => 0
  | k + 1 => cntO ord c k + (if ord k < c then 1 else 0)
def posO (ord : Nat → Nat) (d : Nat) : Nat := ord d - cntO ord (ord d) d
/-- a good order of n: each place is there when its turn comes -/
def okO (ord : Nat → Nat) (n : Nat) : Prop := ∀ d, d < n → ord d < 6 ∧ cntO ord (ord d) d ≤ ord d ∧ posO ord d < n - d
theorem cntO_le {ord : Nat → Nat} {c d : Nat} : ∀ {k}, k ≤ d → cntO ord c k ≤ cntO ord c d := by
  intro k h
  induction d with
  | zero => rw [show k = 0 by omega]; exact Nat.le_refl _
  | succ d ih =>
    by_cases e : k = d + 1
    · rw [e]; exact Nat.le_refl _
    · exact Nat.le_trans (ih (by omega)) (Nat.le_add_right _ _)
/-- payments while they can be made: the wearer, how many are done, what is paid -/
def payR (ord : Nat → Nat) (n : Nat) : Nat → (AW × Nat × Int32) → (AW × Nat × Int32)
  | 0, s => s
  | fu + 1, s => if s.2.1 < n ∧ (s.1.2.2.2.getD (posO ord s.2.1) (0, 0, 0, 0)).2.1 ≤ s.1.1 then payR ord n fu (aPay s.1 (posO ord s.2.1) (s.1.2.2.2.getD (posO ord s.2.1) (0, 0, 0, 0)), s.2.1 + 1, s.2.2 + (s.1.2.2.2.getD (posO ord s.2.1) (0, 0, 0, 0)).2.1) else s
/-- in how many days one is free (-4: never), and what is paid -/
def dayR (ord : Nat → Nat) (n : Nat) : Nat → Nat → (AW × Nat × Int32) → Int32 × Int32
  | 0, _, s => (-4, s.2.2)
  | fu + 1, d, s => if (payR ord n (n - s.2.1) s).2.1 = n then (nI d, (payR ord n (n - s.2.1) s).2.2) else dayR ord n fu (d + 1) (aNight (payR ord n (n - s.2.1) s).1, (payR ord n (n - s.2.1) s).2)
def evO (ord : Nat → Nat) (A : AW) : Int32 × Int32 := dayR ord A.2.2.2.length 361 0 (A, 0, 0)
