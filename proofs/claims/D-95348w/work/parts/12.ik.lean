/-! ranges -/
def tn (x : Int32) : Nat := x.toNatClampNeg
abbrev ik (x : Int32) (n : Nat) : Prop := 0 ≤ x.toInt ∧ x.toInt < (n : Int)
abbrev iv (x : Int32) (a b : Int) : Prop := a ≤ x.toInt ∧ x.toInt ≤ b
theorem tn_int {x : Int32} (h : 0 ≤ x.toInt) : (tn x : Int) = x.toInt := by
  unfold tn
  rw [Int32.toNatClampNeg]
  omega
theorem tn_eq {x : Int32} (h : 0 ≤ x.toInt) : x = nI (tn x) := by
  have h1 := Int32.toInt_lt x
  have h2 := tn_int h
  apply Int32.toInt_inj.mp
  rw [nI_toInt (by omega)]
  omega
theorem tn_nI {n : Nat} (h : n < 2 ^ 31) : tn (nI n) = n := nI_clamp h
theorem ik_eq {x : Int32} {n : Nat} (h : ik x n) : x = nI (tn x) := tn_eq h.1
theorem ik_lt {x : Int32} {n : Nat} (h : ik x n) : tn x < n := by
  have := tn_int h.1
  omega
theorem iv_eq {x : Int32} {a b : Int} (h : iv x a b) (ha : 0 ≤ a) : x = nI (tn x) := tn_eq (by omega)
theorem iv_tn {x : Int32} {a b : Int} (h : iv x a b) (ha : 0 ≤ a) : a ≤ (tn x : Int) ∧ (tn x : Int) ≤ b := by
  have := tn_int (x := x) (by omega)
  omega
theorem ik_nI {k n : Nat} (hk : k < 2 ^ 31) : ik (nI k) n ↔ k < n := by
  have := nI_toInt hk
  unfold ik
  omega
theorem ik_nat {x : Int32} {m n : Nat} (h : x = nI m) (hm : m < 2 ^ 31) : ik x n ↔ m < n := by rw [h]; exact ik_nI hm
theorem i_le {x y : Int32} : x ≤ y ↔ x.toInt ≤ y.toInt := Int32.le_iff_toInt_le
theorem i_lt {x y : Int32} : x < y ↔ x.toInt < y.toInt := Int32.lt_iff_toInt_lt
theorem ik_of {x a b : Int32} {n : Nat} (ha : a.toInt = 0) (hb : b.toInt = (n : Int) - 1) : (a ≤ x ∧ x ≤ b) ↔ ik x n := by
  rw [i_le, i_le, ha, hb]
  unfold ik
  omega
theorem iv_of {x a b : Int32} {u v : Int} (ha : a.toInt = u) (hb : b.toInt = v) : (a ≤ x ∧ x ≤ b) ↔ iv x u v := by
  rw [i_le, i_le, ha, hb]
theorem nI_m1 {y : Int32} {n : Nat} (h : y = nI n) (hn : n < 2 ^ 30) : (y - 1).toInt = (n : Int) - 1 := by
  rw [h]
  exact pk_sub_toInt (b := 1) hn (by omega)
theorem nI_m2 {y : Int32} {n : Nat} (h : y = nI n) (hn : n < 2 ^ 30) : (y - 2).toInt = (n : Int) - 2 := by
  rw [h]
  exact pk_sub_toInt (b := 2) hn (by omega)
/-! longs -/
theorem l_le {x y : Int64} : x ≤ y ↔ x.toInt ≤ y.toInt := Int64.le_iff_toInt_le
theorem l_lt {x y : Int64} : x < y ↔ x.toInt < y.toInt := Int64.lt_iff_toInt_lt
theorem lc_c (x y : Int64) : (lg_cmp x y = 1 ∧ y < x) ∨ (lg_cmp x y = 0 ∧ x = y) ∨ (lg_cmp x y = -1 ∧ x < y) := by
  unfold lg_cmp
  by_cases h : y < x
  · exact Or.inl ⟨by simp [h], h⟩
  · by_cases h2 : x = y
    · exact Or.inr (Or.inl ⟨by simp [h2], h2⟩)
    · refine Or.inr (Or.inr ⟨by simp [h, h2], ?_⟩)
      rw [l_lt] at h ⊢
      have : x.toInt ≠ y.toInt := fun z => h2 (Int64.toInt_inj.mp z)
      omega
abbrev lc_ (x y : Int64) : Int32 := lg_cmp x y
theorem lc_lt {x y : Int64} (h : lg_cmp x y < 0) : x < y := by
  rcases lc_c x y with ⟨e, g⟩ | ⟨e, g⟩ | ⟨e, g⟩
  · rw [e] at h; exact absurd h (by decide)
  · rw [e] at h; exact absurd h (by decide)
  · exact g
theorem lc_nlt {x y : Int64} (h : ¬ lg_cmp x y < 0) : ¬ x < y := by
  rcases lc_c x y with ⟨e, g⟩ | ⟨e, g⟩ | ⟨e, g⟩
  · rw [l_lt] at g ⊢; omega
  · rw [g, l_lt]; omega
  · rw [e] at h; exact absurd (by decide) h
theorem lc_ge {x y : Int64} (h : 0 ≤ lg_cmp x y) : ¬ x < y := lc_nlt (by rw [i_le] at h; rw [i_lt]; exact fun z => by have : (0 : Int32).toInt = 0 := rfl; omega)
theorem lc_nge {x y : Int64} (h : ¬ 0 ≤ lg_cmp x y) : x < y := lc_lt (by rw [i_le] at h; rw [i_lt]; have : (0 : Int32).toInt = 0 := rfl; omega)
theorem lc_gt {x y : Int64} (h : 0 < lg_cmp x y) : y < x := by
  rcases lc_c x y with ⟨e, g⟩ | ⟨e, g⟩ | ⟨e, g⟩
  · exact g
  · rw [e] at h; exact absurd h (by decide)
  · rw [e] at h; exact absurd h (by decide)
theorem lc_ngt {x y : Int64} (h : ¬ 0 < lg_cmp x y) : ¬ y < x := by
  rcases lc_c x y with ⟨e, g⟩ | ⟨e, g⟩ | ⟨e, g⟩
  · rw [e] at h; exact absurd (by decide) h
  · rw [g, l_lt]; omega
  · rw [l_lt] at g ⊢; omega
theorem lc_le {x y : Int64} (h : lg_cmp x y ≤ 0) : ¬ y < x := lc_ngt (by rw [i_le] at h; rw [i_lt]; have : (0 : Int32).toInt = 0 := rfl; omega)
theorem lc_nle {x y : Int64} (h : ¬ lg_cmp x y ≤ 0) : y < x := lc_gt (by rw [i_le] at h; rw [i_lt]; have : (0 : Int32).toInt = 0 := rfl; omega)
theorem lik_of {x : Int32} {a b : Int64} {n : Nat} (ha : a.toInt = 0) (hb : b.toInt = (n : Int) - 1) : (a ≤ x.toInt64 ∧ x.toInt64 ≤ b) ↔ ik x n := by
  rw [l_le, l_le, ha, hb, Int32.toInt_toInt64]
  unfold ik
  omega
theorem liv_of {x : Int32} {a b : Int64} {u v : Int} (ha : a.toInt = u) (hb : b.toInt = v) : (a ≤ x.toInt64 ∧ x.toInt64 ≤ b) ↔ iv x u v := by
  rw [l_le, l_le, ha, hb, Int32.toInt_toInt64]
section
variable {p : Program} {l : Launch} {e : Env} {R : Room} {s : State} {m : MethodId} {args : Array Value} {below : List Frame} {meth : Method} {c : Code} {H : Heap} {locs : List Loc} {cells slots : Nat} {Q : State → Prop} {pc : Nat} {ls : Array Slot} {rest : List Value} {cc : ByteArray}
theorem mg_lcmp (hexec : p.tables.exec = Jvm.exec) (hb : c.code = cc) {x y : Int64} (hdg : decode cc pc = .ok (.lcmp, 1)) (k : W p l e R s m args below meth c H locs cells slots Q (F0 m (pc + 1) ls (.int (lg_cmp x y) :: rest))) : W p l e R s m args below meth c H locs cells slots Q (F0 m pc ls (.long y :: .long x :: rest)) := W.lcmp hexec hb hdg k
end
/-! the people of a world k (0 now, 1 then, 2 kept): how many, how many coats each, the lenders -/
def xFk (σ : mMem) (k np : Nat) (nc : Nat → Nat) (ld : Nat → Nat → Nat) : Prop := σ (1 + k) 3 = nI np ∧ np ≤ 5 ∧ ∀ p, p < np → σ (30 + 15 * k + 3 * p) 6 = nI (nc p) ∧ nc p ≤ 8 ∧ ∀ c, c < nc p → σ (30 + 15 * k + 3 * p + 2) (4 * c) = nI (ld p c) ∧ ld p c < 5
abbrev xF (σ : mMem) (np : Nat) (nc : Nat → Nat) (ld : Nat → Nat → Nat) : Prop := xFk σ 0 np nc ld
theorem xF.n {σ : mMem} {np : Nat} {nc : Nat → Nat} {ld : Nat → Nat → Nat} (h : xF σ np nc ld) : σ 1 3 = nI np := h.1
theorem xF.n5 {σ : mMem} {np : Nat} {nc : Nat → Nat} {ld : Nat → Nat → Nat} (h : xF σ np nc ld) : np ≤ 5 := h.2.1
theorem xF.m {σ : mMem} {np : Nat} {nc : Nat → Nat} {ld : Nat → Nat → Nat} (h : xF σ np nc ld) {p : Nat} (hp : p < np) : σ (30 + 3 * p) 6 = nI (nc p) := (h.2.2 p hp).1
theorem xF.m8 {σ : mMem} {np : Nat} {nc : Nat → Nat} {ld : Nat → Nat → Nat} (h : xF σ np nc ld) {p : Nat} (hp : p < np) : nc p ≤ 8 := (h.2.2 p hp).2.1
theorem xF.l {σ : mMem} {np : Nat} {nc : Nat → Nat} {ld : Nat → Nat → Nat} (h : xF σ np nc ld) {p : Nat} (hp : p < np) : ∀ c, c < nc p → σ (30 + 3 * p + 2) (4 * c) = nI (ld p c) ∧ ld p c < 5 := (h.2.2 p hp).2.2
