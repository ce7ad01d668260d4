/-! the reference: its memory, its state's place -/
def mBM (D : va_G) (dA : Nat → ClassId) (ad : Nat → Nat) (N : Nat) (u : mMem × Nat) (t : State) : Prop := va_P D xCl (mW dA (shM u.2) ad N u.1) t.heap
theorem mBM.of {D : va_G} {dA : Nat → ClassId} {ad : Nat → Nat} {N : Nat} {σ : mMem} {st : Nat} {t : State} {H : Heap} (ht : t.heap = H) (h : va_P D xCl (mW dA (shM st) ad N σ) H) : mBM D dA ad N (σ, st) t := by
  unfold mBM; rw [ht]; exact h
theorem mBM.get {D : va_G} {dA : Nat → ClassId} {ad : Nat → Nat} {N : Nat} {u : mMem × Nat} {σ : mMem} {st : Nat} {t : State} {H : Heap} (ht : t.heap = H) (e : u = (σ, st)) (h : mBM D dA ad N u t) : va_P D xCl (mW dA (shM st) ad N σ) H := by
  subst e; unfold mBM at h; rw [ht] at h; exact h
theorem shM_ne {st j i : Nat} (h : i ≠ 0) : shM st i = shM j i := by
  unfold shM
  split <;> first | contradiction | rfl
theorem shM_up {st j : Nat} : va_up (shM st) 0 (shM j 0) = shM j := by
  funext i
  by_cases h : i = 0
  · subst h; exact va_up_self _ _ _
  · rw [va_up_ne _ _ h]; exact shM_ne h
section
variable {p : Program} {l : Launch} {e : Env} {R : Room} {s : State} {m : MethodId} {args : Array Value} {below : List Frame} {meth : Method} {c : Code} {H : Heap} {locs : List Loc} {cells slots : Nat} {Q : State → Prop}
variable {cc : ByteArray} {pc : Nat} {ls : Array Slot} {rest : List Value} {D : va_G} {dA : Nat → ClassId} {ad : Nat → Nat} {N : Nat} {σ : mMem} {A : Nat → Prop} {H0 : Heap}
/-- state = one of the two rows -/
theorem mg_state {st j : Nat} (hx : p.tables.exec = Jvm.exec) (hb : c.code = cc) (hts : ∀ w ∈ lw_all, w.before args s = true) (hown : s.vm.findClass RX8 = some m.cls) (hE : mE D dA s) (hD : mD A ad N) (hP : va_P D xCl (mW dA (shM st) ad N σ) H) (hS : va_S A H0 H locs) (hN : 18 ≤ N) {index : Nat} (hlink : (Cond.fieldLink RX8 index RX8 "state" "[I").before args s = true) (hdg : decode cc pc = .ok (.putfield index, 3))
    (kk : ∀ (H1 : Heap) (locs1 : List Loc), va_P D xCl (mW dA (shM j) ad N σ) H1 → va_S A H0 H1 locs1 → W p l e R s m args below meth c H1 locs1 cells slots Q (F0 m (pc + 3) ls rest)) : W p l e R s m args below meth c H locs cells slots Q (F0 m pc ls (.ref (ad j) :: .ref (ad 0) :: rest)) := by
  refine mg_putR (r := some j) (ty := .array .int) hx hb hts in_X8 tyX8 tyX8_ok nmX8 hown hE hD hP hS 0 (by omega) (sh := shM st) rfl rfl 3 (Nat.le_of_ble_eq_true rfl) (by decide) hlink (fun _ h9 => h9) rfl (by decide +kernel) rfl rfl hdg (fun H1 locs1 hP1 hS1 => kk H1 locs1 ?_ hS1)
  rw [← shM_up (st := st) (j := j)]
  exact hP1
end
/-- the people of a row: how many, how many coats each, the lenders -/
def yFk (σ : mMem) (st np : Nat) (nc : Nat → Nat) (ld : Nat → Nat → Nat) : Prop := σ 0 0 = nI np ∧ np ≤ 5 ∧ ∀ p, p < np → σ st (40 * p + 3) = nI (nc p) ∧ nc p ≤ 8 ∧ ∀ c, c < nc p → σ st (40 * p + 8 + 4 * c) = nI (ld p c) ∧ ld p c < 5
theorem yFk.n {σ : mMem} {st np : Nat} {nc : Nat → Nat} {ld : Nat → Nat → Nat} (h : yFk σ st np nc ld) : σ 0 0 = nI np := h.1
theorem yFk.n5 {σ : mMem} {st np : Nat} {nc : Nat → Nat} {ld : Nat → Nat → Nat} (h : yFk σ st np nc ld) : np ≤ 5 := h.2.1
theorem yFk.m {σ : mMem} {st np : Nat} {nc : Nat → Nat} {ld : Nat → Nat → Nat} (h : yFk σ st np nc ld) {p : Nat} (hp : p < np) : σ st (40 * p + 3) = nI (nc p) := (h.2.2 p hp).1
theorem yFk.m8 {σ : mMem} {st np : Nat} {nc : Nat → Nat} {ld : Nat → Nat → Nat} (h : yFk σ st np nc ld) {p : Nat} (hp : p < np) : nc p ≤ 8 := (h.2.2 p hp).2.1
theorem yFk.l {σ : mMem} {st np : Nat} {nc : Nat → Nat} {ld : Nat → Nat → Nat} (h : yFk σ st np nc ld) {p : Nat} (hp : p < np) : ∀ c, c < nc p → σ st (40 * p + 8 + 4 * c) = nI (ld p c) ∧ ld p c < 5 := (h.2.2 p hp).2.2
theorem yFk.keep {σ τ : mMem} {st np : Nat} {nc : Nat → Nat} {ld : Nat → Nat → Nat} (h : yFk σ st np nc ld) (h1 : τ 0 0 = σ 0 0) (h2 : ∀ p, p < 5 → τ st (40 * p + 3) = σ st (40 * p + 3)) (h3 : ∀ p, p < 5 → ∀ c, c < 8 → τ st (40 * p + 8 + 4 * c) = σ st (40 * p + 8 + 4 * c)) : yFk τ st np nc ld := by
  obtain ⟨a, b, d⟩ := h
  refine ⟨h1.trans a, b, fun p hp => ?_⟩
  obtain ⟨d1, d2, d3⟩ := d p hp
  refine ⟨(h2 p (by omega)).trans d1, d2, fun c hc => ?_⟩
  rw [h3 p (by omega) c (by omega)]
  exact d3 c hc
theorem yFk.mup {σ : mMem} {st np : Nat} {nc : Nat → Nat} {ld : Nat → Nat → Nat} (h : yFk σ st np nc ld) {a b : Nat} {v : Int32} (h1 : ¬ (a = 0 ∧ b = 0)) (h2 : ∀ p, p < 5 → ¬ (a = st ∧ b = 40 * p + 3)) (h3 : ∀ p, p < 5 → ∀ c, c < 8 → ¬ (a = st ∧ b = 40 * p + 8 + 4 * c)) : yFk (mup σ a b v) st np nc ld := by
  refine h.keep ?_ (fun p hp => ?_) (fun p hp c hc => ?_)
  · rw [mup_at, if_neg (fun q => h1 ⟨q.1.symm, q.2.symm⟩)]
  · rw [mup_at, if_neg (fun q => h2 p hp ⟨q.1.symm, q.2.symm⟩)]
  · rw [mup_at, if_neg (fun q => h3 p hp c hc ⟨q.1.symm, q.2.symm⟩)]
/-- noughts from a place on -/
def zrF (σ : mMem) (a b : Nat) : Nat → mMem
  | 0 => σ
  | k + 1 => mup (zrF σ a b k) a (b + k) 0
theorem zr_ne {σ : mMem} {a b k i j : Nat} (h : i ≠ a) : zrF σ a b k i j = σ i j := by
  induction k with
  | zero => rfl
  | succ k ih => rw [zrF, mup_ne1 h, ih]
theorem zr_at {σ : mMem} {a b k j : Nat} : zrF σ a b k a j = if b ≤ j ∧ j < b + k then 0 else σ a j := by
  induction k with
  | zero => rw [zrF, if_neg (by omega)]
  | succ k ih =>
    rw [zrF, mup_at]
    by_cases h : j = b + k
    · rw [if_pos ⟨rfl, h⟩, if_pos (by omega)]
    · rw [if_neg (fun q => h q.2), ih]
      by_cases h2 : b ≤ j ∧ j < b + k
      · rw [if_pos h2, if_pos (by omega)]
      · rw [if_neg h2, if_neg (by omega)]
def sam (f : Nat → Int32) : Nat → Int32
  | 0 => 0
  | c + 1 => sam f c + f (4 * c + 1)
def ofM (σ : mMem) (p n a : Nat) : Int32 := if a < 4 then σ 1 (40 * p + a) else (if a = 4 then thk (fun k => σ 1 (40 * p + 8 + k)) n else (if a = 5 then (if sam (fun k => σ 1 (40 * p + 8 + k)) n ≤ 9999999 then sam (fun k => σ 1 (40 * p + 8 + k)) n else 9999999) else σ 1 (40 * p + 4)))
