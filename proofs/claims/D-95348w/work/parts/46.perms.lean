theorem mBM.get2 {D : va_G} {dA : Nat → ClassId} {ad : Nat → Nat} {N : Nat} {u : mMem × Nat} {st : Nat} {t : State} {H : Heap} (ht : t.heap = H) (e : u.2 = st) (h : mBM D dA ad N u t) : va_P D xCl (mW dA (shM st) ad N u.1) H := by
  subst e; unfold mBM at h; rw [ht] at h; exact h
def ownM (A : AW) (ru n : Nat) (l : List Nat) : Int32 := if lawB ru n (lf l) n = true then nev (evO (lf l) A).1 else 361
def stM (A : AW) (ru n : Nat) (Z : Int32 × Int32 × (Nat → Nat)) (l : List Nat) : Int32 × Int32 × (Nat → Nat) := if ownM A ru n l < Z.1 ∨ (ownM A ru n l < 361 ∧ ownM A ru n l = Z.1 ∧ (evO (lf l) A).2 < Z.2.1) then (ownM A ru n l, (evO (lf l) A).2, lf l) else Z
def nextL (n : Nat) (l : List Nat) : Option (List Nat) := (turnN (lf l) n).map (fun q => (List.range n).map q)
def seqT (n : Nat) : Nat → List Nat → List (List Nat)
  | 0, l => [l]
  | fu + 1, l => match nextL n l with
    | none => [l]
    | some l2 => l :: seqT n fu l2
def endT (n : Nat) : Nat → List Nat → Bool
  | 0, l => (nextL n l).isNone
  | fu + 1, l => match nextL n l with
    | none => true
    | some l2 => endT n fu l2
theorem next_none {n : Nat} {l : List Nat} (h : turnN (lf l) n = none) : nextL n l = none := by unfold nextL; rw [h]; rfl
theorem next_some {n : Nat} {l : List Nat} {q : Nat → Nat} (h : turnN (lf l) n = some q) : nextL n l = some ((List.range n).map q) := by unfold nextL; rw [h]; rfl
theorem seqT_h {n fu : Nat} {l : List Nat} : l ∈ seqT n fu l := by
  cases fu with
  | zero => exact List.mem_cons_self
  | succ fu =>
    rw [seqT]
    split <;> exact List.mem_cons_self
theorem seqT_e {n fu : Nat} {l : List Nat} (h : nextL n l = none) : seqT n fu l = [l] := by
  cases fu with
  | zero => rfl
  | succ fu => rw [seqT, h]
theorem fu_pos {n fu : Nat} {l l2 : List Nat} (h : endT n fu l = true) (h2 : nextL n l = some l2) : 0 < fu := by
  cases fu with
  | zero => rw [endT, h2] at h; cases h
  | succ fu => exact Nat.succ_pos _
theorem seqT_s {n fu : Nat} {l l2 : List Nat} (h2 : nextL n l = some l2) (h : 0 < fu) : seqT n fu l = l :: seqT n (fu - 1) l2 := by
  obtain ⟨g, rfl⟩ : ∃ g, fu = g + 1 := ⟨fu - 1, by omega⟩
  rw [seqT, h2]; rfl
theorem endT_s {n fu : Nat} {l l2 : List Nat} (h2 : nextL n l = some l2) (h : 0 < fu) (he : endT n fu l = true) : endT n (fu - 1) l2 = true := by
  obtain ⟨g, rfl⟩ : ∃ g, fu = g + 1 := ⟨fu - 1, by omega⟩
  rw [endT, h2] at he; exact he
theorem endT_d : ∀ n : Fin 7, endT n.val 720 (List.range n.val) = true := by decide +kernel
theorem endT_all {n : Nat} (h : n ≤ 6) : endT n 720 (List.range n) = true := endT_d ⟨n, by omega⟩
theorem goodM_d : ∀ (ru : Fin 3) (n : Fin 7), (seqT n.val 720 (List.range n.val)).all (fun w => !(lawB ru.val n.val (lf w) n.val) || okOb n.val w) = true := by decide +kernel
theorem goodM {ru n : Nat} (hr : ru < 3) (hn : n ≤ 6) : ∀ w, w ∈ seqT n 720 (List.range n) → lawB ru n (lf w) n = true → okO (lf w) n := by
  intro w hw hl
  have := List.all_eq_true.mp (goodM_d ⟨ru, hr⟩ ⟨n, by omega⟩) w hw
  simp only at this
  rw [hl] at this
  exact okO_of this
def bestY (A : AW) (ru : Nat) : Int32 × Int32 × (Nat → Nat) := List.foldl (stM A ru A.2.2.2.length) (361, 0, fun _ => 0) (seqT A.2.2.2.length 720 (List.range A.2.2.2.length))
def kpB (σ τ : mMem) : Prop := ∀ a b, (a ≠ 2 ∧ a ≠ 10 ∧ a ≠ 11) → ¬ (a = 0 ∧ (b = 19 ∨ b = 20)) → τ a b = σ a b
def idF (σ : mMem) : Nat → mMem
  | 0 => σ
  | k + 1 => mup (idF σ k) 10 k (nI k)
def boF (σ : mMem) : Nat → mMem
  | 0 => σ
  | k + 1 => mup (boF σ k) 11 k (boF σ k 10 k)
theorem idF_ne {σ : mMem} {k i j : Nat} (h : i ≠ 10) : idF σ k i j = σ i j := by
  induction k with
  | zero => rfl
  | succ k ih => rw [idF, mup_ne1 h, ih]
theorem boF_ne {σ : mMem} {k i j : Nat} (h : i ≠ 11) : boF σ k i j = σ i j := by
  induction k with
  | zero => rfl
  | succ k ih => rw [boF, mup_ne1 h, ih]
theorem boF_at {σ : mMem} {k j : Nat} (h : j < k) : boF σ k 11 j = σ 10 j := by
  induction k with
  | zero => omega
  | succ k ih =>
    rw [boF]
    by_cases e : j = k
    · subst e; rw [mup_self, boF_ne (by decide)]
    · rw [mup_ne2 e, ih (by omega)]
theorem kpB_id {σ : mMem} {k : Nat} : kpB σ (idF σ k) := fun a b h1 h2 => idF_ne h1.2.1
theorem kpB_M {σ τ ρ : mMem} (h : kpB σ τ) (h2 : kpM τ ρ) : kpB σ ρ := fun a b q1 q2 => (h2 a b q1.1 (fun z => q2 ⟨z.1, Or.inl z.2⟩)).trans (h a b q1 q2)
theorem kpB_k {σ τ ρ : mMem} (h : kpB σ τ) (h2 : ∀ x y, x ≠ 10 → ρ x y = τ x y) : kpB σ ρ := fun a b q1 q2 => (h2 a b q1.2.1).trans (h a b q1 q2)
theorem kpB_20 {σ τ : mMem} {v : Int32} (h : kpB σ τ) : kpB σ (mup τ 0 20 v) := fun a b q1 q2 => by
  rw [mup_at, if_neg (fun z => q2 ⟨z.1, Or.inr z.2⟩)]; exact h a b q1 q2
theorem kpB_bo {σ τ : mMem} {kk : Nat} (h : kpB σ τ) : kpB σ (boF τ kk) := fun a b q1 q2 => (boF_ne q1.2.2).trans (h a b q1 q2)
theorem sR_B {σ τ : mMem} {p : Nat} {A : AW} (h : sR σ p A) (h2 : kpB σ τ) : sR τ p A := by
  obtain ⟨a1, a2, a3, a4, a5, a6, a7⟩ := h
  have e : ∀ b, τ 12 b = σ 12 b := fun b => h2 12 b (by decide) (fun z => absurd z.1 (by decide))
  exact ⟨(e _).trans a1, (e _).trans a2, fun l hl => (h2 3 _ (by decide) (fun z => absurd z.1 (by decide))).trans (a3 l hl), (e _).trans a4, a5, a6.congr (fun k hk => e _), a7⟩
theorem lf_map {q : Nat → Nat} {n k : Nat} (h : k < n) : lf ((List.range n).map q) k = q k := by
  unfold lf
  rw [List.getD_eq_getElem?_getD, List.getElem?_map, List.getElem?_range h]; rfl
theorem lf_range {n k : Nat} (h : k < n) : lf (List.range n) k = k := by
  unfold lf
  rw [List.getD_eq_getElem?_getD, List.getElem?_range h]; rfl
theorem idF_at {σ : mMem} {k j : Nat} (h : j < k) : idF σ k 10 j = nI j := by
  induction k with
  | zero => omega
  | succ k ih =>
    rw [idF]
    by_cases e : j = k
    · subst e; rw [mup_self]
    · rw [mup_ne2 e, ih (by omega)]
theorem lo_id {σ : mMem} {k n : Nat} (hk : k = n) (h6 : n ≤ 6) : ∀ j, j < n → idF σ k 10 j = nI (lf (List.range n) j) ∧ lf (List.range n) j < 6 := by
  subst hk
  intro j hj
  rw [idF_at hj, lf_range hj]
  exact ⟨rfl, by omega⟩
theorem lo_map {u : mMem} {q : Nat → Nat} {n : Nat} (h : ∀ m, m < n → u 10 m = nI (q m) ∧ q m < 6) : ∀ k, k < n → u 10 k = nI (lf ((List.range n).map q) k) ∧ lf ((List.range n).map q) k < 6 := by
  intro k hk
  rw [lf_map hk]
  exact h k hk
theorem lo_M {τ ρ : mMem} {n : Nat} {l : List Nat} (h : ∀ k, k < n → τ 10 k = nI (lf l k) ∧ lf l k < 6) (h2 : kpM τ ρ) : ∀ k, k < n → ρ 10 k = nI (lf l k) ∧ lf l k < 6 := fun k hk => ⟨(h2 10 k (by decide) (fun z => absurd z.1 (by decide))).trans (h k hk).1, (h k hk).2⟩
theorem lo_bo {ρ : mMem} {n kk : Nat} {v : Int32} {l : List Nat} (h : ∀ k, k < n → ρ 10 k = nI (lf l k) ∧ lf l k < 6) : ∀ k, k < n → boF (mup ρ 0 20 v) kk 10 k = nI (lf l k) ∧ lf l k < 6 := fun k hk => ⟨(boF_ne (by decide)).trans ((mup_ne1 (by decide)).trans (h k hk).1), (h k hk).2⟩
theorem zr_M {τ ρ : mMem} {n : Nat} {Z : Int32 × Int32 × (Nat → Nat)} (h : Z.1 < 361 → τ 0 20 = Z.2.1 ∧ ∀ k, k < n → τ 11 k = nI (Z.2.2 k)) (h2 : kpM τ ρ) : Z.1 < 361 → ρ 0 20 = Z.2.1 ∧ ∀ k, k < n → ρ 11 k = nI (Z.2.2 k) := fun q => ⟨(h2 0 20 (by decide) (by decide)).trans (h q).1, fun k hk => (h2 11 k (by decide) (fun z => absurd z.1 (by decide))).trans ((h q).2 k hk)⟩
theorem zr_k {τ ρ : mMem} {n : Nat} {Z : Int32 × Int32 × (Nat → Nat)} (h : Z.1 < 361 → τ 0 20 = Z.2.1 ∧ ∀ k, k < n → τ 11 k = nI (Z.2.2 k)) (h2 : ∀ x y, x ≠ 10 → ρ x y = τ x y) : Z.1 < 361 → ρ 0 20 = Z.2.1 ∧ ∀ k, k < n → ρ 11 k = nI (Z.2.2 k) := fun q => ⟨(h2 0 20 (by decide)).trans (h q).1, fun k hk => (h2 11 k (by decide)).trans ((h q).2 k hk)⟩
theorem zr_bo {τ ρ : mMem} {n m : Nat} {Z1 v : Int32} {l : List Nat} (h : ∀ k, k < n → τ 10 k = nI (lf l k) ∧ lf l k < 6) (h2 : kpM τ ρ) (hm : m = n) : (Z1, v, lf l).1 < 361 → boF (mup ρ 0 20 v) m 0 20 = (Z1, v, lf l).2.1 ∧ ∀ k, k < n → boF (mup ρ 0 20 v) m 11 k = nI ((Z1, v, lf l).2.2 k) := by
  subst hm
  intro _
  refine ⟨(boF_ne (by decide)).trans (mup_self _ _ _ _), fun k hk => ?_⟩
  rw [boF_at hk, mup_ne1 (by decide), h2 10 k (by decide) (fun z => absurd z.1 (by decide))]
  exact (h k hk).1
