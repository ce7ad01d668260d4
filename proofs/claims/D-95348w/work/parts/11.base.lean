/-! the world of the system (X) and of the reference (M), by places -/
def shX (rr : Nat → Option Nat) (xs : Nat → mSh) (i : Nat) : mSh := if i < 30 then (match i with
  | 0 => .inl (0, [some (some 13), some (some 1), some (some 2), some (some 75), some (some 78), some (some 17), some (some 18), none, none, some (some 81), some (some 19), some (some 20), some (some 21), none, none, none, some (some 84), some (some 22), some (some 23), none, none, some (some 3), some (some 24), none, some (some 25)])
  | 1 => .inl (4, [some (some 4), some (some 7), some (some 10), none, none, none])
  | 2 => .inl (4, [some (some 5), some (some 8), some (some 11), none, none, none])
  | 3 => .inl (4, [some (some 6), some (some 9), some (some 12), none, none, none])
  | 4 => .inr (.inr (4, 5, fun i => some (30 + 3 * i)))
  | 5 => .inr (.inr (4, 5, fun i => some (45 + 3 * i)))
  | 6 => .inr (.inr (4, 5, fun i => some (60 + 3 * i)))
  | 7 => .inr (.inl (0, 12))
  | 8 => .inr (.inl (0, 12))
  | 9 => .inr (.inl (0, 12))
  | 10 => .inr (.inl (0, 2))
  | 11 => .inr (.inl (0, 2))
  | 12 => .inr (.inl (0, 2))
  | 13 => .inr (.inr (3, 3, fun i => some (14 + i)))
  | 14 => .inl (1, [])
  | 15 => .inl (2, [])
  | 16 => .inl (3, [])
  | 17 => .inl (6, [some none, some none, some none, some none, some none, none, none])
  | 18 => .inr (.inl (1, 80))
  | 19 => .inr (.inl (0, 4))
  | 20 => .inr (.inl (0, 6))
  | 21 => .inr (.inl (0, 6))
  | 22 => .inr (.inl (0, 8))
  | 23 => .inr (.inl (0, 8))
  | 24 => .inr (.inl (0, 16))
  | 25 => .inr (.inr (5, 4, fun i => some (26 + i)))
  | k => .inl (7, [some (rr (k - 26))])) else if i < 87 then (if (i - 30) % 3 = 0 then .inl (5, [none, none, none, none, some (some (i + 1)), some (some (i + 2)), none]) else if (i - 30) % 3 = 1 then .inr (.inl (0, 5)) else .inr (.inl (0, 32))) else xs i
def xw (w : Nat) : Prop := 30 ≤ w ∧ w < 87 ∧ (w - 30) % 3 = 0
def xA (ad : Nat → Nat) (N : Nat) : Prop := 87 ≤ N ∧ mD (fun _ => True) ad N
theorem shX_o {rr : Nat → Option Nat} {xs : Nat → mSh} {w : Nat} (h : xw w) : shX rr xs w = .inl (5, [none, none, none, none, some (some (w + 1)), some (some (w + 2)), none]) := by
  obtain ⟨h1, h2, h3⟩ := h
  unfold shX
  rw [if_neg (by omega), if_pos h2, if_pos h3]
theorem shX_t {rr : Nat → Option Nat} {xs : Nat → mSh} {w : Nat} (h : xw w) : shX rr xs (w + 1) = .inr (.inl (0, 5)) := by
  obtain ⟨h1, h2, h3⟩ := h
  unfold shX
  rw [if_neg (by omega), if_pos (by omega), if_neg (by omega), if_pos (by omega)]
theorem shX_c {rr : Nat → Option Nat} {xs : Nat → mSh} {w : Nat} (h : xw w) : shX rr xs (w + 2) = .inr (.inl (0, 32)) := by
  obtain ⟨h1, h2, h3⟩ := h
  unfold shX
  rw [if_neg (by omega), if_pos (by omega), if_neg (by omega), if_neg (by omega)]
theorem xl_o {ad : Nat → Nat} {N w : Nat} (hA : xA ad N) (h : xw w) : w < N := Nat.lt_of_lt_of_le h.2.1 hA.1
theorem xl_t {ad : Nat → Nat} {N w : Nat} (hA : xA ad N) (h : xw w) : w + 1 < N := by have := hA.1; obtain ⟨h1, h2, h3⟩ := h; omega
theorem xl_c {ad : Nat → Nat} {N w : Nat} (hA : xA ad N) (h : xw w) : w + 2 < N := by have := hA.1; obtain ⟨h1, h2, h3⟩ := h; omega
theorem xl_n {ad : Nat → Nat} {N i : Nat} (hA : xA ad N) (h : i < 87) : i < N := Nat.lt_of_lt_of_le h hA.1
theorem xw_p0 {p : Nat} (h : p < 5) : xw (30 + 3 * p) := ⟨by omega, by omega, by omega⟩
theorem xw_p1 {p : Nat} (h : p < 5) : xw (45 + 3 * p) := ⟨by omega, by omega, by omega⟩
theorem xw_p2 {p : Nat} (h : p < 5) : xw (60 + 3 * p) := ⟨by omega, by omega, by omega⟩
def shM (st : Nat) (i : Nat) : mSh := match i with
  | 0 => .inl (8, [none, some (some 1), some (some 2), some (some st), some (some 3), some (some 4), some (some 5), none, none, none, some (some 6), some (some 7), some (some 8), none, none, none, some (some 9), some (some 10), some (some 11), none, none, some (some 12), some (some 13), none, some (some 14), some (some 15), some (some 16), some (some 17)])
  | 1 => .inr (.inl (0, 200))
  | 2 => .inr (.inl (0, 200))
  | 3 => .inr (.inl (0, 25))
  | 4 => .inr (.inl (0, 12))
  | 5 => .inr (.inl (0, 2))
  | 6 => .inr (.inl (0, 8))
  | 7 => .inr (.inl (0, 8))
  | 8 => .inr (.inl (0, 80))
  | 9 => .inr (.inl (0, 24))
  | 10 => .inr (.inl (0, 6))
  | 11 => .inr (.inl (0, 6))
  | 12 => .inr (.inl (0, 40))
  | 13 => .inr (.inl (0, 270))
  | 14 => .inr (.inl (0, 4))
  | 15 => .inr (.inl (0, 4))
  | 16 => .inr (.inl (0, 96))
  | _ => .inr (.inl (0, 24))
def yA (ad : Nat → Nat) (N : Nat) : Prop := 18 ≤ N ∧ mD (fun _ => True) ad N
theorem yl_n {ad : Nat → Nat} {N i : Nat} (hA : yA ad N) (h : i < 18) : i < N := Nat.lt_of_lt_of_le h hA.1
theorem shM_st {st : Nat} (h : st = 1 ∨ st = 2) (t : Nat) : shM t st = .inr (.inl (0, 200)) := by rcases h with rfl | rfl <;> rfl
theorem yl_st {ad : Nat → Nat} {N st : Nat} (hA : yA ad N) (h : st = 1 ∨ st = 2) : st < N := by have := hA.1; omega
/-! truth values as numbers -/
def bi (P : Prop) [Decidable P] : Int32 := if P then 1 else 0
theorem bi_t {P : Prop} [Decidable P] (h : ¬ bi P = 0) : P := by
  by_cases q : P
  · exact q
  · exact absurd (by simp [bi, q]) h
theorem bi_f {P : Prop} [Decidable P] (h : bi P = 0) : ¬ P := by
  intro q
  rw [bi, if_pos q] at h
  exact absurd h (by decide)
theorem bi_1 {P : Prop} [Decidable P] (h : P) : (1 : Int32) = bi P := by simp [bi, h]
theorem bi_0 {P : Prop} [Decidable P] (h : ¬ P) : (0 : Int32) = bi P := by simp [bi, h]
theorem bi_nar {P : Prop} [Decidable P] : narrow .boolean (.int (bi P)) = .int (bi P) := by
  by_cases q : P
  · rw [bi, if_pos q]; rfl
  · rw [bi, if_neg q]; rfl
theorem bi_fit {P : Prop} [Decidable P] : fits .boolean (.int (bi P)) = true := by
  by_cases q : P
  · rw [bi, if_pos q]; rfl
  · rw [bi, if_neg q]; rfl
theorem bi_c {P R : Prop} [Decidable P] [Decidable R] (h : P ↔ R) : bi P = bi R := by
  by_cases q : P
  · rw [bi, bi, if_pos q, if_pos (h.mp q)]
  · rw [bi, bi, if_neg q, if_neg (fun z => q (h.mpr z))]
theorem mv_row {σ : mMem} {i : Nat} {f : Nat → Int32} {a b : Nat} (h : a ≠ i) : va_up σ i f a b = σ a b := by rw [va_up_ne _ _ h]
section
variable {p : Program} {l : Launch} {e : Env} {R : Room} {s : State} {m : MethodId} {args : Array Value} {below : List Frame} {meth : Method} {c : Code} {H : Heap} {locs : List Loc} {cells slots : Nat} {Q : State → Prop} {pc : Nat} {ls : Array Slot} {rest : List Value}
theorem lv_rwi {x y : Int32} (h : x = y) (k : W p l e R s m args below meth c H locs cells slots Q (F0 m pc ls (.int y :: rest))) : W p l e R s m args below meth c H locs cells slots Q (F0 m pc ls (.int x :: rest)) := h ▸ k
end
theorem mi_rem {x y : Int32} {a b : Nat} (h1 : x = nI a) (h2 : y = nI b) (ha : a < 2 ^ 31) (h0 : 0 < b) (hb : b < 2 ^ 31) : x - x / y * y = nI (a % b) := by rw [h1, h2, pk_rem ha h0 hb]
