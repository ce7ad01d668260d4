def kF (o : Nat → Nat) : Nat → Option Nat
  | 0 => none
  | j + 1 => if o j ≤ o (j + 1) then some j else kF o j
theorem kF_yes {o : Nat → Nat} {j : Nat} (h : 0 < j) (h2 : o (j - 1) ≤ o (j - 1 + 1)) : kF o j = some (j - 1) := by
  obtain ⟨i, rfl⟩ : ∃ i, j = i + 1 := ⟨j - 1, by omega⟩
  exact if_pos h2
theorem kF_no {o : Nat → Nat} {j : Nat} (h : 0 < j) (h2 : ¬ o (j - 1) ≤ o (j - 1 + 1)) : kF o j = kF o (j - 1) := by
  obtain ⟨i, rfl⟩ : ∃ i, j = i + 1 := ⟨j - 1, by omega⟩
  exact if_neg h2
def jF (o : Nat → Nat) (v : Nat) : Nat → Nat
  | 0 => 0
  | j + 1 => if o (j + 1) < v then jF o v j else j + 1
theorem jF_yes {o : Nat → Nat} {v i : Nat} (h : 0 < i) (h2 : ¬ o i < v) : jF o v i = i := by
  obtain ⟨j, rfl⟩ : ∃ j, i = j + 1 := ⟨i - 1, by omega⟩
  exact if_neg h2
theorem jF_no {o : Nat → Nat} {v i : Nat} (h : 0 < i) (h2 : o i < v) : jF o v i = jF o v (i - 1) := by
  obtain ⟨j, rfl⟩ : ∃ j, i = j + 1 := ⟨i - 1, by omega⟩
  exact if_pos h2
def swN (o : Nat → Nat) (a b : Nat) : Nat → Nat := fun i => if i = a then o b else if i = b then o a else o i
def rvF : Nat → (Nat → Nat) → Nat → Nat → (Nat → Nat)
  | 0, o, _, _ => o
  | f + 1, o, a, b => if a < b then rvF f (swN o a b) (a + 1) (b - 1) else o
theorem rvF_s {f : Nat} {q : Nat → Nat} {a b : Nat} (h : a < b) (hf : 0 < f) : rvF f q a b = rvF (f - 1) (swN q a b) (a + 1) (b - 1) := by
  obtain ⟨g, rfl⟩ : ∃ g, f = g + 1 := ⟨f - 1, by omega⟩
  exact if_pos h
theorem rvF_e {f : Nat} {q : Nat → Nat} {a b : Nat} (h : ¬ a < b) : rvF f q a b = q := by
  cases f with
  | zero => rfl
  | succ f => exact if_neg h
/-- the next order -/
def turnN (o : Nat → Nat) (n : Nat) : Option (Nat → Nat) := match kF o (n - 1) with
  | none => none
  | some k => some (rvF n (swN o k (jF o (o k) (n - 1))) (k + 1) (n - 1))
theorem turn_none {o : Nat → Nat} {n : Nat} (h : kF o (n - 1) = none) : turnN o n = none := by unfold turnN; rw [h]
theorem turn_some {o q : Nat → Nat} {n k i : Nat} (h : kF o (n - 1) = some k) (h2 : jF o (o k) (n - 1) = i) (h3 : rvF n (swN o k i) (k + 1) (n - 1) = q) : turnN o n = some q := by
  unfold turnN
  rw [h]
  simp only
  rw [h2, h3]
theorem turn_e {x : Int32} {n : Nat} (h : x = nI n) (h1 : 1 ≤ n) : nI (n - 1) - 1 = x - 2 := by
  have e : nI n - 1 = nI (n - 1) := mi_sub (a := n) (b := 1) rfl rfl h1
  rw [h, ← e, Int32.sub_sub]
  rfl
theorem deca {i : Nat} (h : 0 < i) : nI i + Int32.ofInt (-1) = nI (i - 1) := by
  have e : nI i - 1 = nI (i - 1) := mi_sub (a := i) (b := 1) rfl rfl h
  rw [← e, Int32.sub_eq_add_neg]
  rfl
theorem sw_mem {τ : mMem} {q : Nat → Nat} {n a b : Nat} (h : ∀ m, m < n → τ 10 m = nI (q m) ∧ q m < 6) (hab : a ≠ b) (ha : a < n) (hb : b < n) : ∀ m, m < n → mup (mup τ 10 a (nI (q b))) 10 b (nI (q a)) 10 m = nI (swN q a b m) ∧ swN q a b m < 6 := by
  intro m hm
  unfold swN
  by_cases e1 : m = a
  · subst e1
    rw [mup_ne2 hab, mup_self, if_pos rfl]
    exact ⟨rfl, (h b hb).2⟩
  · by_cases e2 : m = b
    · subst e2
      rw [mup_self, if_neg e1, if_pos rfl]
      exact ⟨rfl, (h a ha).2⟩
    · rw [mup_ne2 e2, mup_ne2 e1, if_neg e1, if_neg e2]
      exact h m hm
set_option maxHeartbeats 4000000 in
set_option maxRecDepth 100000 in
theorem mt_X8_turns_1 (l : Launch) (D : va_G) (dA : Nat → ClassId) (st : Nat) (hst : st = 1 ∨ st = 2) (ad : Nat → Nat) (N : Nat) (hA : yA ad N) (σ : mMem) (x : Int32) (n : Nat) (hx0 : x = nI n) (hn6 : n ≤ 6) (o : Nat → Nat) (ho : ∀ k, k < n → σ 10 k = nI (o k) ∧ o k < 6) (hn1 : 1 ≤ n) : Met l yX8_turns (ws_ yX8_turns cX8_turns 7 (some .boolean)) ({ frames := 0, cells := 0, slots := 0, locals := 0 }) (va_Pc [.ref (ad 0), .int x] (mPre D dA (shM st) ad N σ)) (va_Qi (fun (r : Int32) (u : mMem) => (turnN o n = none ∧ r = 0 ∧ u = σ) ∨ (∃ q, turnN o n = some q ∧ r = 1 ∧ (∀ m, m < n → u 10 m = nI (q m) ∧ q m < 6) ∧ ∀ x y, x ≠ 10 → u x y = σ x y)) (mB D dA (shM st) ad N) (mAd ad N)) 0 0 (mAd ad N) := by
  refine Met.ofW (cc := cX8_turns) (maxL := 7) (ret := (some .boolean)) (by decide) rfl ?_
  intro pp ee ss mm args below meth cd s₁ B hml hv
  obtain ⟨rfl, hP, hE⟩ := hv
  have hx := B.exec
  have hb := B.bytes
  have hr := B.returns
  have hts := atoms_spec (ws := ws_ yX8_turns cX8_turns 7 (some .boolean)) B.pre
  have hts : ∀ w ∈ lw_all, w.before _ ss = true := fun w h => hts w (List.mem_cons_of_mem _ h)
  have hown : ss.vm.findClass RX8 = some mm.cls := findClass_of_methodNamed B.named
  have hlocks := B.notSynchronized
  have hD := hA.2.self
  have hS : va_S (mAd ad N) ss.heap ss.heap [] := va_S.rf
  have hNN := hA.1
  have hl := lv_entry ([.ref (ad 0), .int x]) (n := 7) (Nat.le_of_ble_eq_true rfl)
  rw [lg_entry_eq]
  generalize (lg_sl ([.ref (ad 0), .int x]) ++ List.replicate (7 - (lg_sl ([.ref (ad 0), .int x])).length) Slot.unset).toArray = ls at hl ⊢
  have hl : lv_has ls 7 [(0, .ref (ad 0)), (1, .int x)] := hl
  refine lv_iload_n hx hb dX8_turns_0 rfl (lv_at hl 1 rfl) ?_
  refine lv_iconst (v := 2) hx hb dX8_turns_1 (by decide) ?_
  refine lv_isub hx hb dX8_turns_2 ?_
  refine lv_istore_n (lv' := [(2, .int (x - 2)), (0, .ref (ad 0)), (1, .int x)]) hx hb dX8_turns_3 rfl hl (by decide) rfl (fun ls hl => ?_)
  have lp4 : ∀ (fu : Nat) (j : Nat) (_ : j ≤ n - 1) (_ : kF o (n - 1) = kF o j) (_ : j < fu) (ls : Array Slot) (_ : lv_has ls 7 [(2, .int (nI j - 1)), (0, .ref (ad 0)), (1, .int x)]), W pp l ee (headSpec (ws_ yX8_turns cX8_turns 7 (some .boolean)) ({ frames := 0, cells := 0, slots := 0, locals := 0 })).room ss mm ([.ref (ad 0), .int x] : List Value).toArray below meth cd ss.heap [] 0 0 (MQ below (va_Qi (fun (r : Int32) (u : mMem) => (turnN o n = none ∧ r = 0 ∧ u = σ) ∨ (∃ q, turnN o n = some q ∧ r = 1 ∧ (∀ m, m < n → u 10 m = nI (q m) ∧ q m < 6) ∧ ∀ x y, x ≠ 10 → u x y = σ x y)) (mB D dA (shM st) ad N) (mAd ad N)) ([.ref (ad 0), .int x] : List Value).toArray ss 0 0 (mAd ad N)) (F0 mm 4 ls []) := by
    intro fu
    induction fu with
    | zero => intro j hj hkF hfu; exact absurd hfu (Nat.not_lt_zero _)
    | succ fu ih4 =>
      intro j hj hkF hfu ls hl
      refine lv_iload_n hx hb dX8_turns_4 rfl (lv_at hl 0 rfl) ?_
      refine lv_if_lt (tgt := 31) hx hb dX8_turns_5 (by decide) (fun c_1 => ?_) (fun c_1 => ?_)
      · skip
        refine lv_iload_n hx hb dX8_turns_31 rfl (lv_at hl 0 rfl) ?_
        refine lv_if_ge (tgt := 37) hx hb dX8_turns_32 (by decide) (fun c_2 => ?_) (fun c_2 => ?_)
        · skip
          exact absurd c_1 (Int32.not_lt.mpr c_2)
        · skip
          refine lv_iconst (v := 0) hx hb dX8_turns_35 (by decide) ?_
          exact W.zret (v := 0) hx hb hr rfl (fun t ht hW => ⟨⟨_, _, rfl, Or.inl ⟨turn_none (hkF.trans (by rw [show j = 0 by exact m1_neg (by omega) c_1]; rfl)), rfl, rfl⟩, mB.of ht hP⟩, hS.F ht⟩) hS.2.2 dX8_turns_36
      · skip
        have hj0 : 0 < j := m1_pos c_1
        have b1 := (ho (j - 1) (by omega)).2
        have b2 := (ho (j - 1 + 1) (by omega)).2
        refine lv_aload_n hx hb dX8_turns_8 rfl (lv_at hl 1 rfl) ?_
        refine mg_ref hx hb hts in_X8 hown hE hP 0 (yl_n hA (by decide)) rfl rfl 17 rfl (by decide) (hts _ q781) (fun _ h9 => h9) dX8_turns_9 ?_
        refine lv_iload_n hx hb dX8_turns_12 rfl (lv_at hl 0 rfl) ?_
        refine mg_ild hx hb hE hP 10 (yl_n hA (by decide)) rfl (j - 1) (by omega) (mi_sub (a := j) (b := 1) rfl rfl (by omega)) (by decide) dX8_turns_13 ?_
        refine lv_aload_n hx hb dX8_turns_14 rfl (lv_at hl 1 rfl) ?_
        refine mg_ref hx hb hts in_X8 hown hE hP 0 (yl_n hA (by decide)) rfl rfl 17 rfl (by decide) (hts _ q781) (fun _ h9 => h9) dX8_turns_15 ?_
        refine lv_iload_n hx hb dX8_turns_18 rfl (lv_at hl 0 rfl) ?_
        refine lv_iconst (v := 1) hx hb dX8_turns_19 (by decide) ?_
        refine lv_iadd hx hb dX8_turns_20 ?_
        refine mg_ild hx hb hE hP 10 (yl_n hA (by decide)) rfl ((j - 1) + 1) (by omega) (mi_add (mi_sub (a := j) (b := 1) rfl rfl (by omega)) rfl) (by decide) dX8_turns_21 ?_
        refine lv_icmp_le (tgt := 31) hx hb dX8_turns_22 (by decide) (fun c_3 => ?_) (fun c_3 => ?_)
        · have nc_3 : o (j - 1) ≤ o (j - 1 + 1) := mi_le ((ho (j - 1) (by omega)).1) ((ho (j - 1 + 1) (by omega)).1) (by omega) (by omega) c_3
          have hkf : kF o (n - 1) = some (j - 1) := hkF.trans (kF_yes hj0 nc_3)
          refine lv_iload_n hx hb dX8_turns_31 rfl (lv_at hl 0 rfl) ?_
          refine lv_if_ge (tgt := 37) hx hb dX8_turns_32 (by decide) (fun c_4 => ?_) (fun c_4 => ?_)
          · have nc_4 : 0 ≤ j - 1 := mi_le rfl (mi_sub (a := j) (b := 1) rfl rfl (by omega)) (by omega) (by omega) c_4
            refine lv_iload_n hx hb dX8_turns_37 rfl (lv_at hl 2 rfl) ?_
            refine lv_iconst (v := 1) hx hb dX8_turns_38 (by decide) ?_
            refine lv_isub hx hb dX8_turns_39 ?_
            refine lv_rwi (mi_sub (a := n) (b := 1) hx0 rfl (by omega)) ?_
            refine lv_istore_n (lv' := [(3, .int (nI (n - 1))), (2, .int (nI j - 1)), (0, .ref (ad 0)), (1, .int x)]) hx hb dX8_turns_40 rfl hl (by decide) rfl (fun ls hl => ?_)
            have lp41 : ∀ (fu : Nat) (i : Nat) (_ : j - 1 < i) (_ : i ≤ n - 1) (_ : jF o (o (j - 1)) (n - 1) = jF o (o (j - 1)) i) (_ : i < fu) (ls : Array Slot) (_ : lv_has ls 7 [(3, .int (nI i)), (2, .int (nI j - 1)), (0, .ref (ad 0)), (1, .int x)]), W pp l ee (headSpec (ws_ yX8_turns cX8_turns 7 (some .boolean)) ({ frames := 0, cells := 0, slots := 0, locals := 0 })).room ss mm ([.ref (ad 0), .int x] : List Value).toArray below meth cd ss.heap [] 0 0 (MQ below (va_Qi (fun (r : Int32) (u : mMem) => (turnN o n = none ∧ r = 0 ∧ u = σ) ∨ (∃ q, turnN o n = some q ∧ r = 1 ∧ (∀ m, m < n → u 10 m = nI (q m) ∧ q m < 6) ∧ ∀ x y, x ≠ 10 → u x y = σ x y)) (mB D dA (shM st) ad N) (mAd ad N)) ([.ref (ad 0), .int x] : List Value).toArray ss 0 0 (mAd ad N)) (F0 mm 41 ls []) := by
              intro fu
              induction fu with
              | zero => intro i hi1 hi2 hjF hfu; exact absurd hfu (Nat.not_lt_zero _)
              | succ fu ih41 =>
                intro i hi1 hi2 hjF hfu ls hl
                have b3 := (ho i (by omega)).2
                refine lv_aload_n hx hb dX8_turns_41 rfl (lv_at hl 2 rfl) ?_
                refine mg_ref hx hb hts in_X8 hown hE hP 0 (yl_n hA (by decide)) rfl rfl 17 rfl (by decide) (hts _ q781) (fun _ h9 => h9) dX8_turns_42 ?_
                refine lv_iload_n hx hb dX8_turns_45 rfl (lv_at hl 0 rfl) ?_
                refine mg_ild hx hb hE hP 10 (yl_n hA (by decide)) rfl i (by omega) rfl (by decide) dX8_turns_46 ?_
                refine lv_aload_n hx hb dX8_turns_47 rfl (lv_at hl 2 rfl) ?_
                refine mg_ref hx hb hts in_X8 hown hE hP 0 (yl_n hA (by decide)) rfl rfl 17 rfl (by decide) (hts _ q781) (fun _ h9 => h9) dX8_turns_48 ?_
                refine lv_iload_n hx hb dX8_turns_51 rfl (lv_at hl 1 rfl) ?_
                refine mg_ild hx hb hE hP 10 (yl_n hA (by decide)) rfl (j - 1) (by omega) (mi_sub (a := j) (b := 1) rfl rfl (by omega)) (by decide) dX8_turns_52 ?_
                refine lv_icmp_ge (tgt := 62) hx hb dX8_turns_53 (by decide) (fun c_5 => ?_) (fun c_5 => ?_)
                · have nc_5 : o (j - 1) ≤ o i := mi_le ((ho (j - 1) (by omega)).1) ((ho i (by omega)).1) (by omega) (by omega) c_5
                  have hjf := hjF.trans (jF_yes (by omega) (Nat.not_lt.mpr nc_5))
                  refine lv_aload_n hx hb dX8_turns_62 rfl (lv_at hl 2 rfl) ?_
                  refine mg_ref hx hb hts in_X8 hown hE hP 0 (yl_n hA (by decide)) rfl rfl 17 rfl (by decide) (hts _ q781) (fun _ h9 => h9) dX8_turns_63 ?_
                  refine lv_iload_n hx hb dX8_turns_66 rfl (lv_at hl 1 rfl) ?_
                  refine mg_ild hx hb hE hP 10 (yl_n hA (by decide)) rfl (j - 1) (by omega) (mi_sub (a := j) (b := 1) rfl rfl (by omega)) (by decide) dX8_turns_67 ?_
                  refine lv_rwi ((ho (j - 1) (by omega)).1) ?_
                  refine lv_istore (lv' := [(4, .int (nI (o (j - 1)))), (3, .int (nI i)), (2, .int (nI j - 1)), (0, .ref (ad 0)), (1, .int x)]) hx hb dX8_turns_68 hl (by decide) rfl (fun ls hl => ?_)
                  refine lv_aload_n hx hb dX8_turns_70 rfl (lv_at hl 3 rfl) ?_
                  refine mg_ref hx hb hts in_X8 hown hE hP 0 (yl_n hA (by decide)) rfl rfl 17 rfl (by decide) (hts _ q781) (fun _ h9 => h9) dX8_turns_71 ?_
                  refine lv_iload_n hx hb dX8_turns_74 rfl (lv_at hl 2 rfl) ?_
                  refine lv_aload_n hx hb dX8_turns_75 rfl (lv_at hl 3 rfl) ?_
                  refine mg_ref hx hb hts in_X8 hown hE hP 0 (yl_n hA (by decide)) rfl rfl 17 rfl (by decide) (hts _ q781) (fun _ h9 => h9) dX8_turns_76 ?_
                  refine lv_iload_n hx hb dX8_turns_79 rfl (lv_at hl 1 rfl) ?_
                  refine mg_ild hx hb hE hP 10 (yl_n hA (by decide)) rfl i (by omega) rfl (by decide) dX8_turns_80 ?_
                  refine lv_rwi ((ho i (by omega)).1) ?_
                  refine mg_ist (v := (nI (o i))) hx hb hE hD hP hS 10 (yl_n hA (by decide)) rfl (j - 1) (by omega) (mi_sub (a := j) (b := 1) rfl rfl (by omega)) (by decide) dX8_turns_81 (fun H locs hP hS => ?_)
                  refine lv_aload_n hx hb dX8_turns_82 rfl (lv_at hl 3 rfl) ?_
                  refine mg_ref hx hb hts in_X8 hown hE hP 0 (yl_n hA (by decide)) rfl rfl 17 rfl (by decide) (hts _ q781) (fun _ h9 => h9) dX8_turns_83 ?_
                  refine lv_iload_n hx hb dX8_turns_86 rfl (lv_at hl 1 rfl) ?_
                  refine lv_iload hx hb dX8_turns_87 (lv_at hl 0 rfl) ?_
                  refine mg_ist (v := (nI (o (j - 1)))) hx hb hE hD hP hS 10 (yl_n hA (by decide)) rfl i (by omega) rfl (by decide) dX8_turns_89 (fun H locs hP hS => ?_)
                  refine lv_iload_n hx hb dX8_turns_90 rfl (lv_at hl 2 rfl) ?_
                  refine lv_iconst (v := 1) hx hb dX8_turns_91 (by decide) ?_
                  refine lv_iadd hx hb dX8_turns_92 ?_
                  refine lv_rwi (mi_add (mi_sub (a := j) (b := 1) rfl rfl (by omega)) rfl) ?_
                  refine lv_istore (lv' := [(5, .int (nI ((j - 1) + 1))), (4, .int (nI (o (j - 1)))), (3, .int (nI i)), (2, .int (nI j - 1)), (0, .ref (ad 0)), (1, .int x)]) hx hb dX8_turns_93 hl (by decide) rfl (fun ls hl => ?_)
                  refine lv_iload_n hx hb dX8_turns_95 rfl (lv_at hl 5 rfl) ?_
                  refine lv_iconst (v := 1) hx hb dX8_turns_96 (by decide) ?_
                  refine lv_isub hx hb dX8_turns_97 ?_
                  refine lv_rwi (mi_sub (a := n) (b := 1) hx0 rfl (by omega)) ?_
                  refine lv_istore (lv' := [(6, .int (nI (n - 1))), (5, .int (nI ((j - 1) + 1))), (4, .int (nI (o (j - 1)))), (3, .int (nI i)), (2, .int (nI j - 1)), (0, .ref (ad 0)), (1, .int x)]) hx hb dX8_turns_98 hl (by decide) rfl (fun ls hl => ?_)
                  have lp100 : ∀ (fu : Nat) (a : Nat) (b : Nat) (q : Nat → Nat) (f : Nat) (τ : mMem) (_ : 1 ≤ a) (_ : b < n) (_ : b < a + f) (_ : a ≤ b + 1) (_ : ∀ m, m < n → τ 10 m = nI (q m) ∧ q m < 6) (_ : ∀ x y, x ≠ 10 → τ x y = σ x y) (_ : rvF n (swN o (j - 1) i) (j - 1 + 1) (n - 1) = rvF f q a b) (_ : b + 1 - a < fu) (H : Heap) (locs : List Loc) (_ : va_P D xCl (mW dA (shM st) ad N τ) H) (_ : va_S (mAd ad N) ss.heap H locs) (ls : Array Slot) (_ : lv_has ls 7 [(6, .int (nI b)), (5, .int (nI a)), (3, .int (nI i)), (2, .int (nI j - 1)), (0, .ref (ad 0)), (1, .int x)]), W pp l ee (headSpec (ws_ yX8_turns cX8_turns 7 (some .boolean)) ({ frames := 0, cells := 0, slots := 0, locals := 0 })).room ss mm ([.ref (ad 0), .int x] : List Value).toArray below meth cd H locs 0 0 (MQ below (va_Qi (fun (r : Int32) (u : mMem) => (turnN o n = none ∧ r = 0 ∧ u = σ) ∨ (∃ q, turnN o n = some q ∧ r = 1 ∧ (∀ m, m < n → u 10 m = nI (q m) ∧ q m < 6) ∧ ∀ x y, x ≠ 10 → u x y = σ x y)) (mB D dA (shM st) ad N) (mAd ad N)) ([.ref (ad 0), .int x] : List Value).toArray ss 0 0 (mAd ad N)) (F0 mm 100 ls []) := by
                    intro fu
                    induction fu with
                    | zero => intro a b q f τ ha1 hbn haf hab hq hke hrv hfu; exact absurd hfu (Nat.not_lt_zero _)
                    | succ fu ih100 =>
                      intro a b q f τ ha1 hbn haf hab hq hke hrv hfu H locs hP hS ls hl
                      refine lv_iload hx hb dX8_turns_100 (lv_at hl 1 rfl) ?_
                      refine lv_iload hx hb dX8_turns_102 (lv_at hl 0 rfl) ?_
                      refine lv_icmp_ge (tgt := 148) hx hb dX8_turns_104 (by decide) (fun c_6 => ?_) (fun c_6 => ?_)
                      · have nc_6 : b ≤ a := mi_le rfl rfl (by omega) (by omega) c_6
                        refine lv_iconst (v := 1) hx hb dX8_turns_148 (by decide) ?_
                        exact W.zret (v := 1) hx hb hr rfl (fun t ht hW => ⟨⟨_, _, rfl, Or.inr ⟨q, turn_some hkf hjf (hrv.trans (rvF_e (by omega))), rfl, hq, hke⟩, mB.of ht hP⟩, hS.F ht⟩) hS.2.2 dX8_turns_149
                      · have nc_6 : a < b := mi_nle rfl rfl (by omega) (by omega) c_6
                        refine lv_aload_n hx hb dX8_turns_107 rfl (lv_at hl 4 rfl) ?_
                        refine mg_ref hx hb hts in_X8 hown hE hP 0 (yl_n hA (by decide)) rfl rfl 17 rfl (by decide) (hts _ q781) (fun _ h9 => h9) dX8_turns_108 ?_
                        refine lv_iload hx hb dX8_turns_111 (lv_at hl 1 rfl) ?_
                        refine mg_ild hx hb hE hP 10 (yl_n hA (by decide)) rfl a (by omega) rfl (by decide) dX8_turns_113 ?_
                        refine lv_rwi ((hq a (by omega)).1) ?_
                        refine lv_istore (lv' := [(4, .int (nI (q a))), (6, .int (nI b)), (5, .int (nI a)), (3, .int (nI i)), (2, .int (nI j - 1)), (0, .ref (ad 0)), (1, .int x)]) hx hb dX8_turns_114 hl (by decide) rfl (fun ls hl => ?_)
                        refine lv_aload_n hx hb dX8_turns_116 rfl (lv_at hl 5 rfl) ?_
                        refine mg_ref hx hb hts in_X8 hown hE hP 0 (yl_n hA (by decide)) rfl rfl 17 rfl (by decide) (hts _ q781) (fun _ h9 => h9) dX8_turns_117 ?_
                        refine lv_iload hx hb dX8_turns_120 (lv_at hl 2 rfl) ?_
                        refine lv_aload_n hx hb dX8_turns_122 rfl (lv_at hl 5 rfl) ?_
                        refine mg_ref hx hb hts in_X8 hown hE hP 0 (yl_n hA (by decide)) rfl rfl 17 rfl (by decide) (hts _ q781) (fun _ h9 => h9) dX8_turns_123 ?_
                        refine lv_iload hx hb dX8_turns_126 (lv_at hl 1 rfl) ?_
                        refine mg_ild hx hb hE hP 10 (yl_n hA (by decide)) rfl b (by omega) rfl (by decide) dX8_turns_128 ?_
                        refine lv_rwi ((hq b (by omega)).1) ?_
                        refine mg_ist (v := (nI (q b))) hx hb hE hD hP hS 10 (yl_n hA (by decide)) rfl a (by omega) rfl (by decide) dX8_turns_129 (fun H locs hP hS => ?_)
                        refine lv_aload_n hx hb dX8_turns_130 rfl (lv_at hl 5 rfl) ?_
                        refine mg_ref hx hb hts in_X8 hown hE hP 0 (yl_n hA (by decide)) rfl rfl 17 rfl (by decide) (hts _ q781) (fun _ h9 => h9) dX8_turns_131 ?_
                        refine lv_iload hx hb dX8_turns_134 (lv_at hl 1 rfl) ?_
                        refine lv_iload hx hb dX8_turns_136 (lv_at hl 0 rfl) ?_
                        refine mg_ist (v := (nI (q a))) hx hb hE hD hP hS 10 (yl_n hA (by decide)) rfl b (by omega) rfl (by decide) dX8_turns_138 (fun H locs hP hS => ?_)
                        refine lv_iinc (v := (nI (a + 1))) (lv' := [(5, .int (nI (a + 1))), (4, .int (nI (q a))), (6, .int (nI b)), (3, .int (nI i)), (2, .int (nI j - 1)), (0, .ref (ad 0)), (1, .int x)]) hx hb dX8_turns_139 hl (k := 2) rfl (mi_add rfl rfl) (by decide) rfl (fun ls hl => ?_)
                        refine lv_iinc (v := (nI (b - 1))) (lv' := [(6, .int (nI (b - 1))), (5, .int (nI (a + 1))), (4, .int (nI (q a))), (3, .int (nI i)), (2, .int (nI j - 1)), (0, .ref (ad 0)), (1, .int x)]) hx hb dX8_turns_142 hl (k := 2) rfl (deca (by omega)) (by decide) rfl (fun ls hl => ?_)
                        refine lv_goto (tgt := 100) hx hb dX8_turns_145 (by decide) ?_
                        exact ih100  (a + 1) (b - 1) (swN q a b) (f - 1) (mup (mup τ 10 a (nI (q b))) 10 b (nI (q a))) (by omega) (by omega) (by omega) (by omega) (sw_mem hq (by omega) (by omega) (by omega)) (fun x y h => (mup_ne1 h).trans ((mup_ne1 h).trans (hke x y h))) (hrv.trans (rvF_s (by omega) (by omega))) (by omega) _ _ hP hS ls (lv_sub hl [0, 1, 3, 4, 5, 6] rfl)
                  exact lp100 (n - 1 + 1 - (j - 1) + 1 + 1) ((j - 1) + 1) (n - 1) (swN o (j - 1) i) n (mup (mup σ 10 (j - 1) (nI (o i))) 10 i (nI (o (j - 1)))) (by omega) (by omega) (by omega) (by omega) (sw_mem ho (by omega) (by omega) (by omega)) (fun x y h => (mup_ne1 h).trans (mup_ne1 h)) rfl (by omega) _ _ hP hS ls (lv_sub hl [0, 1, 3, 4, 5, 6] rfl)
                · have nc_5 : o i < o (j - 1) := mi_nle ((ho (j - 1) (by omega)).1) ((ho i (by omega)).1) (by omega) (by omega) c_5
                  have hne : i ≠ j - 1 + 1 := fun e => by rw [e] at nc_5; omega
                  refine lv_iinc (v := (nI (i - 1))) (lv' := [(3, .int (nI (i - 1))), (2, .int (nI j - 1)), (0, .ref (ad 0)), (1, .int x)]) hx hb dX8_turns_56 hl (k := 0) rfl (deca (by omega)) (by decide) rfl (fun ls hl => ?_)
                  refine lv_goto (tgt := 41) hx hb dX8_turns_59 (by decide) ?_
                  exact ih41  (i - 1) (by omega) (by omega) (hjF.trans (jF_no (by omega) nc_5)) (by omega) ls (lv_sub hl [0, 1, 2, 3] rfl)
            exact lp41 (n - 1 + 1) (n - 1) (by omega) (by omega) rfl (by omega) ls (lv_sub hl [0, 1, 2, 3] rfl)
          · have nc_4 : j - 1 < 0 := mi_nle rfl (mi_sub (a := j) (b := 1) rfl rfl (by omega)) (by omega) (by omega) c_4
            exact absurd (Int32.not_le.mp c_4) c_1
        · have nc_3 : o (j - 1 + 1) < o (j - 1) := mi_nle ((ho (j - 1) (by omega)).1) ((ho (j - 1 + 1) (by omega)).1) (by omega) (by omega) c_3
          refine lv_iinc (v := (nI (j - 1) - 1)) (lv' := [(2, .int (nI (j - 1) - 1)), (0, .ref (ad 0)), (1, .int x)]) hx hb dX8_turns_25 hl (k := 0) rfl (dec1 (by omega)) (by decide) rfl (fun ls hl => ?_)
          refine lv_goto (tgt := 4) hx hb dX8_turns_28 (by decide) ?_
          exact ih4  (j - 1) (by omega) (hkF.trans (kF_no hj0 (Nat.not_le.mpr nc_3))) (by omega) ls (lv_sub hl [0, 1, 2] rfl)
  exact lp4 (n - 1 + 1) (n - 1) (by omega) rfl (by omega) ls (lv_sub hl [0, 1, 2] (by rw [show nI (n - 1) - 1 = x - 2 from turn_e hx0 hn1]; rfl))
set_option maxHeartbeats 4000000 in
set_option maxRecDepth 100000 in
theorem mt_X8_turns_0 (l : Launch) (D : va_G) (dA : Nat → ClassId) (st : Nat) (hst : st = 1 ∨ st = 2) (ad : Nat → Nat) (N : Nat) (hA : yA ad N) (σ : mMem) (x : Int32) (n : Nat) (hx0 : x = nI n) (hn6 : n ≤ 6) (o : Nat → Nat) (ho : ∀ k, k < n → σ 10 k = nI (o k) ∧ o k < 6) (hn0 : n = 0) : Met l yX8_turns (ws_ yX8_turns cX8_turns 7 (some .boolean)) ({ frames := 0, cells := 0, slots := 0, locals := 0 }) (va_Pc [.ref (ad 0), .int x] (mPre D dA (shM st) ad N σ)) (va_Qi (fun (r : Int32) (u : mMem) => (turnN o n = none ∧ r = 0 ∧ u = σ) ∨ (∃ q, turnN o n = some q ∧ r = 1 ∧ (∀ m, m < n → u 10 m = nI (q m) ∧ q m < 6) ∧ ∀ x y, x ≠ 10 → u x y = σ x y)) (mB D dA (shM st) ad N) (mAd ad N)) 0 0 (mAd ad N) := by
  refine Met.ofW (cc := cX8_turns) (maxL := 7) (ret := (some .boolean)) (by decide) rfl ?_
  intro pp ee ss mm args below meth cd s₁ B hml hv
  obtain ⟨rfl, hP, hE⟩ := hv
  have hx := B.exec
  have hb := B.bytes
  have hr := B.returns
  have hts := atoms_spec (ws := ws_ yX8_turns cX8_turns 7 (some .boolean)) B.pre
  have hts : ∀ w ∈ lw_all, w.before _ ss = true := fun w h => hts w (List.mem_cons_of_mem _ h)
  have hown : ss.vm.findClass RX8 = some mm.cls := findClass_of_methodNamed B.named
  have hlocks := B.notSynchronized
  have hD := hA.2.self
  have hS : va_S (mAd ad N) ss.heap ss.heap [] := va_S.rf
  have hNN := hA.1
  have hl := lv_entry ([.ref (ad 0), .int x]) (n := 7) (Nat.le_of_ble_eq_true rfl)
  rw [lg_entry_eq]
  generalize (lg_sl ([.ref (ad 0), .int x]) ++ List.replicate (7 - (lg_sl ([.ref (ad 0), .int x])).length) Slot.unset).toArray = ls at hl ⊢
  have hl : lv_has ls 7 [(0, .ref (ad 0)), (1, .int x)] := hl
  refine lv_iload_n hx hb dX8_turns_0 rfl (lv_at hl 1 rfl) ?_
  refine lv_iconst (v := 2) hx hb dX8_turns_1 (by decide) ?_
  refine lv_isub hx hb dX8_turns_2 ?_
  refine lv_istore_n (lv' := [(2, .int (x - 2)), (0, .ref (ad 0)), (1, .int x)]) hx hb dX8_turns_3 rfl hl (by decide) rfl (fun ls hl => ?_)
  refine lv_iload_n hx hb dX8_turns_4 rfl (lv_at hl 0 rfl) ?_
  refine lv_if_lt (tgt := 31) hx hb dX8_turns_5 (by decide) (fun c_1 => ?_) (fun c_1 => ?_)
  · skip
    refine lv_iload_n hx hb dX8_turns_31 rfl (lv_at hl 0 rfl) ?_
    refine lv_if_ge (tgt := 37) hx hb dX8_turns_32 (by decide) (fun c_2 => ?_) (fun c_2 => ?_)
    · skip
      exact absurd c_2 (by rw [hx0, hn0]; decide)
    · skip
      refine lv_iconst (v := 0) hx hb dX8_turns_35 (by decide) ?_
      exact W.zret (v := 0) hx hb hr rfl (fun t ht hW => ⟨⟨_, _, rfl, Or.inl ⟨turn_none (by rw [hn0]; rfl), rfl, rfl⟩, mB.of ht hP⟩, hS.F ht⟩) hS.2.2 dX8_turns_36
  · skip
    exact absurd (by rw [hx0, hn0]; decide) c_1
theorem mt_X8_turns (l : Launch) (D : va_G) (dA : Nat → ClassId) (st : Nat) (hst : st = 1 ∨ st = 2) (ad : Nat → Nat) (N : Nat) (hA : yA ad N) (σ : mMem) (x : Int32) (n : Nat) (hx0 : x = nI n) (hn6 : n ≤ 6) (o : Nat → Nat) (ho : ∀ k, k < n → σ 10 k = nI (o k) ∧ o k < 6) : Met l yX8_turns (ws_ yX8_turns cX8_turns 7 (some .boolean)) ({ frames := 0, cells := 0, slots := 0, locals := 0 }) (va_Pc [.ref (ad 0), .int x] (mPre D dA (shM st) ad N σ)) (va_Qi (fun (r : Int32) (u : mMem) => (turnN o n = none ∧ r = 0 ∧ u = σ) ∨ (∃ q, turnN o n = some q ∧ r = 1 ∧ (∀ m, m < n → u 10 m = nI (q m) ∧ q m < 6) ∧ ∀ x y, x ≠ 10 → u x y = σ x y)) (mB D dA (shM st) ad N) (mAd ad N)) 0 0 (mAd ad N) := by
  rcases Nat.eq_zero_or_pos n with hn0 | hn1
  · exact mt_X8_turns_0 l D dA st hst ad N hA σ x n hx0 hn6 o ho hn0
  · exact mt_X8_turns_1 l D dA st hst ad N hA σ x n hx0 hn6 o ho hn1
