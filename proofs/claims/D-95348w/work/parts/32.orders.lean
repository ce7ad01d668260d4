def lf (l : List Nat) (j : Nat) : Nat := l.getD j 0
def popc (m : Nat) : Nat := m % 2 + m / 2 % 2 + m / 4 % 2 + m / 8 % 2 + m / 16 % 2 + m / 32 % 2
def clr (m c : Nat) : Nat := m - 2 ^ c
def bc1 (x : Int32) : Int32 := x - ((x.toUInt32 >>> ((1 : Int32).toUInt32 &&& Int32.toUInt32 31)).toInt32 &&& 1431655765)
def bc2 (x : Int32) : Int32 := (x &&& 858993459) + ((x.toUInt32 >>> ((2 : Int32).toUInt32 &&& Int32.toUInt32 31)).toInt32 &&& 858993459)
def bc3 (x : Int32) : Int32 := (x + (x.toUInt32 >>> ((4 : Int32).toUInt32 &&& Int32.toUInt32 31)).toInt32) &&& 252645135
def bc4 (x : Int32) : Int32 := x + (x.toUInt32 >>> ((8 : Int32).toUInt32 &&& Int32.toUInt32 31)).toInt32
def bc5 (x : Int32) : Int32 := x + (x.toUInt32 >>> ((16 : Int32).toUInt32 &&& Int32.toUInt32 31)).toInt32
def bcE (x : Int32) : Int32 := bc5 (bc4 (bc3 (bc2 (bc1 x)))) &&& 63
theorem bc_all : ∀ m : Fin 64, bcE (nI m.val) = nI (popc m.val) := by decide +kernel
theorem bc_nat {x : Int32} {m : Nat} (h : x = nI m) (hm : m < 64) : bcE x = nI (popc m) := by rw [h]; exact bc_all ⟨m, hm⟩
theorem tb_all : ∀ (m : Fin 64) (c : Fin 6), (((nI m.val >>> (nI c.val &&& 31)) &&& 1) = 1) ↔ m.val.testBit c.val = true := by decide +kernel
theorem tb_of {x : Int32} {m c : Nat} (h : x = nI m) (hm : m < 64) (hc : c < 6) : (((x >>> (nI c &&& 31)) &&& 1) = 1) ↔ m.testBit c = true := by rw [h]; exact tb_all ⟨m, hm⟩ ⟨c, hc⟩
theorem lo_all : ∀ (m : Fin 64) (c : Fin 6), nI m.val &&& (((1 : Int32) <<< (nI c.val &&& 31)) - 1) = nI (m.val &&& (2 ^ c.val - 1)) := by decide +kernel
theorem and_lo {x : Int32} {m c : Nat} (h : x = nI m) (hm : m < 64) (hc : c < 6) : x &&& (((1 : Int32) <<< (nI c &&& 31)) - 1) = nI (m &&& (2 ^ c - 1)) := by rw [h]; exact lo_all ⟨m, hm⟩ ⟨c, hc⟩
theorem clr_all : ∀ (m : Fin 64) (c : Fin 6), m.val.testBit c.val = true → nI m.val &&& (((1 : Int32) <<< (nI c.val &&& 31)) ^^^ (-1)) = nI (clr m.val c.val) ∧ popc (clr m.val c.val) + 1 = popc m.val := by decide +kernel
theorem clr_ofb {x : Int32} {m c : Nat} (h : x = nI m) (hm : m < 64) (hc : c < 6) (hb : m.testBit c = true) : x &&& (((1 : Int32) <<< (nI c &&& 31)) ^^^ (-1)) = nI (clr m c) := by rw [h]; exact (clr_all ⟨m, hm⟩ ⟨c, hc⟩ hb).1
theorem clr_lt {m c : Nat} (hm : m < 64) : clr m c < 64 := Nat.lt_of_le_of_lt (Nat.sub_le _ _) hm
theorem clr_pc {m c k : Nat} (hm : m < 64) (hc : c < 6) (hp : popc m = k + 1) (hb : m.testBit c = true) : popc (clr m c) = k := by
  have := (clr_all ⟨m, hm⟩ ⟨c, hc⟩ hb).2
  simp only at this
  omega
theorem pc_all : ∀ m : Fin 64, popc m.val = 0 → m.val = 0 := by decide +kernel
theorem clr0 {x : Int32} {m c : Nat} (h : x = nI m) (hm : m < 64) (hp : popc m = 1) (hc : c < 6) (hb : m.testBit c = true) : x &&& (((1 : Int32) <<< (nI c &&& 31)) ^^^ (-1)) = nI 0 := by
  have e : clr m c = 0 := pc_all ⟨clr m c, clr_lt hm⟩ (clr_pc hm hc hp hb)
  rw [clr_ofb h hm hc hb, e]
theorem pc_ne {m k : Nat} (h : popc m = k) (hk : k ≠ 0) : m ≠ 0 := by
  intro e
  subst e
  exact hk (h.symm.trans (by decide))
theorem popc_lt (m : Nat) : popc m < 2 ^ 30 := by unfold popc; omega
def letsN (ru a b : Nat) : Bool := if ru = 0 then decide (a + 1 = b) else if ru = 1 then decide (a = 0) else (decide (a ≠ 0) || decide (b = 1))
theorem lets_nat {ru a b : Nat} {y : Int32} (hru : ru < 3) (ha : a < 2 ^ 30) (hy : y = nI b) (hb : b < 2 ^ 30 := by decide) : lets_ ru (nI a) y ↔ letsN ru a b = true := by
  subst hy
  have e1 : (nI b - 1).toInt = (b : Int) - 1 := nI_m1 rfl hb
  have e2 : (nI a).toInt = (a : Int) := nI_toInt (by omega)
  have e3 : (nI b).toInt = (b : Int) := nI_toInt (by omega)
  unfold lets_ letsN
  by_cases h0 : ru = 0
  · rw [if_pos h0, if_pos h0, decide_eq_true_iff, ← Int32.toInt_inj, e1, e2]; omega
  · rw [if_neg h0, if_neg h0]
    by_cases h1 : ru = 1
    · rw [if_pos h1, if_pos h1, decide_eq_true_iff, ← Int32.toInt_inj, e2, show (0 : Int32).toInt = 0 from rfl]; omega
    · rw [if_neg h1, if_neg h1, Bool.or_eq_true, decide_eq_true_iff, decide_eq_true_iff, ← Int32.toInt_inj, ← Int32.toInt_inj, e2, e3, show (0 : Int32).toInt = 0 from rfl, show (1 : Int32).toInt = 1 from rfl]; omega
/-- all orders that are let, from a depth on -/
def dfsL (ru n : Nat) : Nat → Nat → List Nat → List (List Nat)
  | 0, _, pre => [pre]
  | k + 1, mask, pre => (List.range n).flatMap (fun c => if mask.testBit c = true ∧ letsN ru (popc (mask &&& (2 ^ c - 1))) (k + 1) = true then dfsL ru n k (clr mask c) (pre ++ [c]) else [])
def dfG (ru n k mask : Nat) (pre : List Nat) (c : Nat) : List (List Nat) := if mask.testBit c = true ∧ letsN ru (popc (mask &&& (2 ^ c - 1))) (k + 1) = true then dfsL ru n k (clr mask c) (pre ++ [c]) else []
theorem dfG_pos {ru n k mask : Nat} {pre : List Nat} {c : Nat} (h1 : mask.testBit c = true) (h2 : letsN ru (popc (mask &&& (2 ^ c - 1))) (k + 1) = true) : dfG ru n k mask pre c = dfsL ru n k (clr mask c) (pre ++ [c]) := if_pos ⟨h1, h2⟩
theorem dfG_neg1 {ru n k mask : Nat} {pre : List Nat} {c : Nat} (h1 : ¬ (mask.testBit c = true)) : dfG ru n k mask pre c = [] := if_neg (fun q => h1 q.1)
theorem dfG_neg2 {ru n k mask : Nat} {pre : List Nat} {c : Nat} (h2 : ¬ (letsN ru (popc (mask &&& (2 ^ c - 1))) (k + 1) = true)) : dfG ru n k mask pre c = [] := if_neg (fun q => h2 q.2)
theorem dfs_mem {ru n k mask : Nat} {pre o : List Nat} {c : Nat} (hc : c < n) (h1 : mask.testBit c = true) (h2 : letsN ru (popc (mask &&& (2 ^ c - 1))) (k + 1) = true) (h : o ∈ dfsL ru n k (clr mask c) (pre ++ [c])) : o ∈ dfsL ru n (k + 1) mask pre :=
  List.mem_flatMap.mpr ⟨c, List.mem_range.mpr hc, by rw [if_pos ⟨h1, h2⟩]; exact h⟩
theorem dfs_mem1 {ru n mask : Nat} {pre : List Nat} {c : Nat} (hc : c < n) (h1 : mask.testBit c = true) (h2 : letsN ru (popc (mask &&& (2 ^ c - 1))) 1 = true) : (pre ++ [c]) ∈ dfsL ru n 1 mask pre := dfs_mem hc h1 h2 List.mem_cons_self
theorem fold_step {α β : Type} (f : β → α → β) (B : β) (G : Nat → List α) (c : Nat) : List.foldl f B ((List.range (c + 1)).flatMap G) = List.foldl f (List.foldl f B ((List.range c).flatMap G)) (G c) := by
  rw [List.range_succ, List.flatMap_append, List.foldl_append]
  simp
/-- the best so far -/
def stB (A : AW) (B : Int32 × Int32 × (Nat → Nat)) (o : List Nat) : Int32 × Int32 × (Nat → Nat) := if 0 ≤ (evO (lf o) A).1 ∧ (B.1 < 0 ∨ (evO (lf o) A).1 < B.1 ∨ ((evO (lf o) A).1 = B.1 ∧ (evO (lf o) A).2 < B.2.1)) then ((evO (lf o) A).1, (evO (lf o) A).2, lf o) else B
def bR (σ : mMem) (n : Nat) (B : Int32 × Int32 × (Nat → Nat)) : Prop := σ 0 13 = B.1 ∧ σ 0 14 = B.2.1 ∧ (0 ≤ B.1 → ∀ k, k < n → σ 21 k = nI (B.2.2 k))
def kpT (σ τ : mMem) : Prop := ∀ a b, (a ≠ 20 ∧ a ≠ 21 ∧ a ≠ 75 ∧ a ≠ 76 ∧ a ≠ 77 ∧ a ≠ 78) → ¬ (a = 0 ∧ (b = 13 ∨ b = 14 ∨ b = 15)) → τ a b = σ a b
theorem kpT_of {σ τ : mMem} (h : kpD σ τ) : kpT σ τ := fun a b h1 h2 => h a b h1.2.2.1 h1.2.2.2.1 h1.2.2.2.2.1 (fun q => h2 ⟨q.1, Or.inr (Or.inr q.2)⟩)
theorem kpT_tr {σ τ ρ : mMem} (h : kpT σ τ) (h2 : kpT τ ρ) : kpT σ ρ := fun a b q1 q2 => (h2 a b q1 q2).trans (h a b q1 q2)
theorem kpT_78 {σ τ : mMem} (h : kpT σ τ) {k : Nat} {v : Int32} : kpT σ (mup τ 78 k v) := fun a b q1 q2 => (mup_ne1 q1.2.2.2.2.2).trans (h a b q1 q2)
theorem kpT_20 {σ τ : mMem} (h : kpT σ τ) {k : Nat} {v : Int32} : kpT σ (mup τ 20 k v) := fun a b q1 q2 => (mup_ne1 q1.1).trans (h a b q1 q2)
theorem kpT_o {σ τ : mMem} (h : kpT σ τ) {a b : Nat} (ha : 0 < a ∧ a < 20) : τ a b = σ a b := h a b (by omega) (by omega)
theorem kpT_v {σ τ : mMem} (h : kpT σ τ) {A : AW} {v n : Nat} (hA : aR σ v A) (hn : A.2.2.2.length = n) (h1 : 30 ≤ v) (h2 : v ≠ 75 ∧ v ≠ 76 ∧ v ≠ 77 ∧ v ≠ 78) : τ v 6 = nI n := (h v 6 (by omega) (by omega)).trans (hA.n.trans (congrArg nI hn))
theorem tA {σ τ : mMem} {A : AW} {v : Nat} (hA : aR σ v A) (h : kpT σ τ) (hv : xw v) (h1 : v ≠ 75) (h2 : v ≠ 78) : aR τ v A := by
  obtain ⟨w1, w2, w3⟩ := hv
  exact hA.keep (fun b => h v b (by omega) (by omega)) (fun b => h (v + 1) b (by omega) (by omega)) (fun b => h (v + 2) b (by omega) (by omega))
theorem bR_kp {σ τ : mMem} {n : Nat} {B : Int32 × Int32 × (Nat → Nat)} (h : kpD σ τ) (hB : bR σ n B) : bR τ n B := ⟨(h 0 13 (by decide) (by decide) (by decide) (by decide)).trans hB.1, (h 0 14 (by decide) (by decide) (by decide) (by decide)).trans hB.2.1, fun q k hk => (h 21 k (by decide) (by decide) (by decide) (by omega)).trans (hB.2.2 q k hk)⟩
theorem bR_w78 {τ : mMem} {n : Nat} {B : Int32 × Int32 × (Nat → Nat)} {k : Nat} {v : Int32} (hB : bR τ n B) : bR (mup τ 78 k v) n B := ⟨(mup_ne1 (by decide)).trans hB.1, (mup_ne1 (by decide)).trans hB.2.1, fun q j hj => (mup_ne1 (by decide)).trans (hB.2.2 q j hj)⟩
theorem bR_w {τ : mMem} {n : Nat} {B : Int32 × Int32 × (Nat → Nat)} {k k2 : Nat} {v v2 : Int32} (hB : bR τ n B) : bR (mup (mup τ 78 k v) 20 k2 v2) n B := by
  have h := bR_w78 (k := k) (v := v) hB
  exact ⟨(mup_ne1 (by decide)).trans h.1, (mup_ne1 (by decide)).trans h.2.1, fun q j hj => (mup_ne1 (by decide)).trans (h.2.2 q j hj)⟩
theorem bR_new {σ τ : mMem} {n : Nat} {r pd : Int32} {ord : Nat → Nat} (h : kpD σ τ) (hp : ∀ j, j < n → σ 20 j = nI (ord j)) (hn : n ≤ 6) : bR (va_up (mup (mup τ 0 13 r) 0 14 pd) 21 (va_cpy (τ 20) (τ 21) 0 0 6)) n (r, pd, ord) := by
  refine ⟨?_, ?_, fun _ k hk => ?_⟩
  · rw [mv_row (by decide), mup_ne2 (by decide), mup_self]
  · rw [mv_row (by decide), mup_self]
  · rw [va_up_self, pk_cpy_in (by omega) (by omega), Nat.sub_zero, Nat.zero_add, h 20 k (by decide) (by decide) (by decide) (by omega)]
    exact hp k hk
theorem lf_20 (τ : mMem) (r pd : Int32) (f : Nat → Int32) {j : Nat} : va_up (mup (mup τ 0 13 r) 0 14 pd) 21 f 20 j = τ 20 j := by
  rw [mv_row (by decide), mup_ne1 (by decide), mup_ne1 (by decide)]
theorem lf_kp {σ τ : mMem} {r pd : Int32} {f : Nat → Int32} (h : kpD σ τ) : kpT σ (va_up (mup (mup τ 0 13 r) 0 14 pd) 21 f) := fun a b q1 q2 => by
  rw [mv_row q1.2.1, mup_at, if_neg (by omega), mup_at, if_neg (by omega)]
  exact kpT_of h a b q1 q2
theorem lf_app {l : List Nat} {c j : Nat} (h : j < l.length) : lf (l ++ [c]) j = lf l j := by
  unfold lf
  rw [List.getD_eq_getElem?_getD, List.getElem?_append_left h, ← List.getD_eq_getElem?_getD]
theorem lf_last {l : List Nat} {c : Nat} : lf (l ++ [c]) l.length = c := by
  unfold lf
  rw [List.getD_eq_getElem?_getD, List.getElem?_append_right (Nat.le_refl _), Nat.sub_self]; rfl
theorem pre_push {σ τ : mMem} {pre : List Nat} {c dp k : Nat} {v : Int32} (hl : pre.length = dp) (hp : ∀ j, j < dp → σ 20 j = nI (lf pre j)) (hq : ∀ j, j < dp → τ 20 j = σ 20 j) (_ : dp + 0 < 100) : ∀ j, j < dp + 1 → mup (mup τ 78 k v) 20 dp (nI c) 20 j = nI (lf (pre ++ [c]) j) := by
  intro j hj
  by_cases e : j = dp
  · subst e
    rw [mup_self, ← hl, lf_last]
  · rw [mup_ne2 e, mup_ne1 (by decide), hq j (by omega), hp j (by omega), lf_app (by omega)]
theorem pre_pushn {σ τ : mMem} {pre : List Nat} {c dp k n : Nat} {v : Int32} (hl : pre.length = dp) (hp : ∀ j, j < dp → σ 20 j = nI (lf pre j)) (hq : ∀ j, j < dp → τ 20 j = σ 20 j) (hn : dp + 1 = n) : ∀ j, j < n → mup (mup τ 78 k v) 20 dp (nI c) 20 j = nI (lf (pre ++ [c]) j) := by
  subst hn
  intro j hj
  by_cases e : j = dp
  · subst e
    rw [mup_self, ← hl, lf_last]
  · rw [mup_ne2 e, mup_ne1 (by decide), hq j (by omega), hp j (by omega), lf_app (by omega)]
set_option maxHeartbeats 4000000 in
set_option maxRecDepth 100000 in
theorem mt_J3_bitCount (l : Launch)  (x : Int32) : Met l yJ3_bitCount (ws_ yJ3_bitCount cJ3_bitCount 1 (some .int)) ({ frames := 0, cells := 0, slots := 0, locals := 0 }) (va_Pc [.int x] (fun _ => True)) (vp_Si (fun r : Int32 => r = bcE x)) 0 0 (fun _ => False) := by
  refine Met.ofW (cc := cJ3_bitCount) (maxL := 1) (ret := (some .int)) (by decide) rfl ?_
  intro pp ee ss mm args below meth cd s₁ B hml hv
  obtain ⟨rfl, -⟩ := hv
  have hx := B.exec
  have hb := B.bytes
  have hr := B.returns
  have hts := atoms_spec (ws := ws_ yJ3_bitCount cJ3_bitCount 1 (some .int)) B.pre
  have hts : ∀ w ∈ lw_all, w.before _ ss = true := fun w h => hts w (List.mem_cons_of_mem _ h)
  have hown : ss.vm.findClass RJ3 = some mm.cls := findClass_of_methodNamed B.named
  have hlocks := B.notSynchronized
  have hl := lv_entry ([.int x]) (n := 1) (Nat.le_of_ble_eq_true rfl)
  rw [lg_entry_eq]
  generalize (lg_sl ([.int x]) ++ List.replicate (1 - (lg_sl ([.int x])).length) Slot.unset).toArray = ls at hl ⊢
  have hl : lv_has ls 1 [(0, .int x)] := hl
  refine lv_iload_n hx hb dJ3_bitCount_0 rfl (lv_at hl 0 rfl) ?_
  refine lv_iload_n hx hb dJ3_bitCount_1 rfl (lv_at hl 0 rfl) ?_
  refine lv_iconst (v := 1) hx hb dJ3_bitCount_2 (by decide) ?_
  refine lv_iushr (v := (x.toUInt32 >>> ((1 : Int32).toUInt32 &&& Int32.toUInt32 31)).toInt32) hx hb dJ3_bitCount_3 rfl ?_
  refine lv_ldcw hx hb hown (hts _ q569) dJ3_bitCount_4 ?_
  refine lv_iand hx hb dJ3_bitCount_7 ?_
  refine lv_isub hx hb dJ3_bitCount_8 ?_
  refine lv_istore_n (lv' := [(0, .int (x - ((x.toUInt32 >>> ((1 : Int32).toUInt32 &&& Int32.toUInt32 31)).toInt32 &&& 1431655765)))]) hx hb dJ3_bitCount_9 rfl hl (by decide) rfl (fun ls hl => ?_)
  refine lv_iload_n hx hb dJ3_bitCount_10 rfl (lv_at hl 0 rfl) ?_
  refine lv_ldcw hx hb hown (hts _ q570) dJ3_bitCount_11 ?_
  refine lv_iand hx hb dJ3_bitCount_14 ?_
  refine lv_iload_n hx hb dJ3_bitCount_15 rfl (lv_at hl 0 rfl) ?_
  refine lv_iconst (v := 2) hx hb dJ3_bitCount_16 (by decide) ?_
  refine lv_iushr (v := ((x - ((x.toUInt32 >>> ((1 : Int32).toUInt32 &&& Int32.toUInt32 31)).toInt32 &&& 1431655765)).toUInt32 >>> ((2 : Int32).toUInt32 &&& Int32.toUInt32 31)).toInt32) hx hb dJ3_bitCount_17 rfl ?_
  refine lv_ldcw hx hb hown (hts _ q570) dJ3_bitCount_18 ?_
  refine lv_iand hx hb dJ3_bitCount_21 ?_
  refine lv_iadd hx hb dJ3_bitCount_22 ?_
  refine lv_istore_n (lv' := [(0, .int (((x - ((x.toUInt32 >>> ((1 : Int32).toUInt32 &&& Int32.toUInt32 31)).toInt32 &&& 1431655765)) &&& 858993459) + (((x - ((x.toUInt32 >>> ((1 : Int32).toUInt32 &&& Int32.toUInt32 31)).toInt32 &&& 1431655765)).toUInt32 >>> ((2 : Int32).toUInt32 &&& Int32.toUInt32 31)).toInt32 &&& 858993459)))]) hx hb dJ3_bitCount_23 rfl hl (by decide) rfl (fun ls hl => ?_)
  refine lv_iload_n hx hb dJ3_bitCount_24 rfl (lv_at hl 0 rfl) ?_
  refine lv_iload_n hx hb dJ3_bitCount_25 rfl (lv_at hl 0 rfl) ?_
  refine lv_iconst (v := 4) hx hb dJ3_bitCount_26 (by decide) ?_
  refine lv_iushr (v := ((((x - ((x.toUInt32 >>> ((1 : Int32).toUInt32 &&& Int32.toUInt32 31)).toInt32 &&& 1431655765)) &&& 858993459) + (((x - ((x.toUInt32 >>> ((1 : Int32).toUInt32 &&& Int32.toUInt32 31)).toInt32 &&& 1431655765)).toUInt32 >>> ((2 : Int32).toUInt32 &&& Int32.toUInt32 31)).toInt32 &&& 858993459)).toUInt32 >>> ((4 : Int32).toUInt32 &&& Int32.toUInt32 31)).toInt32) hx hb dJ3_bitCount_27 rfl ?_
  refine lv_iadd hx hb dJ3_bitCount_28 ?_
  refine lv_ldcw hx hb hown (hts _ q571) dJ3_bitCount_29 ?_
  refine lv_iand hx hb dJ3_bitCount_32 ?_
  refine lv_istore_n (lv' := [(0, .int (((((x - ((x.toUInt32 >>> ((1 : Int32).toUInt32 &&& Int32.toUInt32 31)).toInt32 &&& 1431655765)) &&& 858993459) + (((x - ((x.toUInt32 >>> ((1 : Int32).toUInt32 &&& Int32.toUInt32 31)).toInt32 &&& 1431655765)).toUInt32 >>> ((2 : Int32).toUInt32 &&& Int32.toUInt32 31)).toInt32 &&& 858993459)) + ((((x - ((x.toUInt32 >>> ((1 : Int32).toUInt32 &&& Int32.toUInt32 31)).toInt32 &&& 1431655765)) &&& 858993459) + (((x - ((x.toUInt32 >>> ((1 : Int32).toUInt32 &&& Int32.toUInt32 31)).toInt32 &&& 1431655765)).toUInt32 >>> ((2 : Int32).toUInt32 &&& Int32.toUInt32 31)).toInt32 &&& 858993459)).toUInt32 >>> ((4 : Int32).toUInt32 &&& Int32.toUInt32 31)).toInt32) &&& 252645135))]) hx hb dJ3_bitCount_33 rfl hl (by decide) rfl (fun ls hl => ?_)
  refine lv_iload_n hx hb dJ3_bitCount_34 rfl (lv_at hl 0 rfl) ?_
  refine lv_iload_n hx hb dJ3_bitCount_35 rfl (lv_at hl 0 rfl) ?_
  refine lv_bipush (v := 8) hx hb dJ3_bitCount_36 (by decide) ?_
  refine lv_iushr (v := ((((((x - ((x.toUInt32 >>> ((1 : Int32).toUInt32 &&& Int32.toUInt32 31)).toInt32 &&& 1431655765)) &&& 858993459) + (((x - ((x.toUInt32 >>> ((1 : Int32).toUInt32 &&& Int32.toUInt32 31)).toInt32 &&& 1431655765)).toUInt32 >>> ((2 : Int32).toUInt32 &&& Int32.toUInt32 31)).toInt32 &&& 858993459)) + ((((x - ((x.toUInt32 >>> ((1 : Int32).toUInt32 &&& Int32.toUInt32 31)).toInt32 &&& 1431655765)) &&& 858993459) + (((x - ((x.toUInt32 >>> ((1 : Int32).toUInt32 &&& Int32.toUInt32 31)).toInt32 &&& 1431655765)).toUInt32 >>> ((2 : Int32).toUInt32 &&& Int32.toUInt32 31)).toInt32 &&& 858993459)).toUInt32 >>> ((4 : Int32).toUInt32 &&& Int32.toUInt32 31)).toInt32) &&& 252645135).toUInt32 >>> ((8 : Int32).toUInt32 &&& Int32.toUInt32 31)).toInt32) hx hb dJ3_bitCount_38 rfl ?_
  refine lv_iadd hx hb dJ3_bitCount_39 ?_
  refine lv_istore_n (lv' := [(0, .int ((((((x - ((x.toUInt32 >>> ((1 : Int32).toUInt32 &&& Int32.toUInt32 31)).toInt32 &&& 1431655765)) &&& 858993459) + (((x - ((x.toUInt32 >>> ((1 : Int32).toUInt32 &&& Int32.toUInt32 31)).toInt32 &&& 1431655765)).toUInt32 >>> ((2 : Int32).toUInt32 &&& Int32.toUInt32 31)).toInt32 &&& 858993459)) + ((((x - ((x.toUInt32 >>> ((1 : Int32).toUInt32 &&& Int32.toUInt32 31)).toInt32 &&& 1431655765)) &&& 858993459) + (((x - ((x.toUInt32 >>> ((1 : Int32).toUInt32 &&& Int32.toUInt32 31)).toInt32 &&& 1431655765)).toUInt32 >>> ((2 : Int32).toUInt32 &&& Int32.toUInt32 31)).toInt32 &&& 858993459)).toUInt32 >>> ((4 : Int32).toUInt32 &&& Int32.toUInt32 31)).toInt32) &&& 252645135) + ((((((x - ((x.toUInt32 >>> ((1 : Int32).toUInt32 &&& Int32.toUInt32 31)).toInt32 &&& 1431655765)) &&& 858993459) + (((x - ((x.toUInt32 >>> ((1 : Int32).toUInt32 &&& Int32.toUInt32 31)).toInt32 &&& 1431655765)).toUInt32 >>> ((2 : Int32).toUInt32 &&& Int32.toUInt32 31)).toInt32 &&& 858993459)) + ((((x - ((x.toUInt32 >>> ((1 : Int32).toUInt32 &&& Int32.toUInt32 31)).toInt32 &&& 1431655765)) &&& 858993459) + (((x - ((x.toUInt32 >>> ((1 : Int32).toUInt32 &&& Int32.toUInt32 31)).toInt32 &&& 1431655765)).toUInt32 >>> ((2 : Int32).toUInt32 &&& Int32.toUInt32 31)).toInt32 &&& 858993459)).toUInt32 >>> ((4 : Int32).toUInt32 &&& Int32.toUInt32 31)).toInt32) &&& 252645135).toUInt32 >>> ((8 : Int32).toUInt32 &&& Int32.toUInt32 31)).toInt32))]) hx hb dJ3_bitCount_40 rfl hl (by decide) rfl (fun ls hl => ?_)
  refine lv_iload_n hx hb dJ3_bitCount_41 rfl (lv_at hl 0 rfl) ?_
  refine lv_iload_n hx hb dJ3_bitCount_42 rfl (lv_at hl 0 rfl) ?_
  refine lv_bipush (v := 16) hx hb dJ3_bitCount_43 (by decide) ?_
  refine lv_iushr (v := (((((((x - ((x.toUInt32 >>> ((1 : Int32).toUInt32 &&& Int32.toUInt32 31)).toInt32 &&& 1431655765)) &&& 858993459) + (((x - ((x.toUInt32 >>> ((1 : Int32).toUInt32 &&& Int32.toUInt32 31)).toInt32 &&& 1431655765)).toUInt32 >>> ((2 : Int32).toUInt32 &&& Int32.toUInt32 31)).toInt32 &&& 858993459)) + ((((x - ((x.toUInt32 >>> ((1 : Int32).toUInt32 &&& Int32.toUInt32 31)).toInt32 &&& 1431655765)) &&& 858993459) + (((x - ((x.toUInt32 >>> ((1 : Int32).toUInt32 &&& Int32.toUInt32 31)).toInt32 &&& 1431655765)).toUInt32 >>> ((2 : Int32).toUInt32 &&& Int32.toUInt32 31)).toInt32 &&& 858993459)).toUInt32 >>> ((4 : Int32).toUInt32 &&& Int32.toUInt32 31)).toInt32) &&& 252645135) + ((((((x - ((x.toUInt32 >>> ((1 : Int32).toUInt32 &&& Int32.toUInt32 31)).toInt32 &&& 1431655765)) &&& 858993459) + (((x - ((x.toUInt32 >>> ((1 : Int32).toUInt32 &&& Int32.toUInt32 31)).toInt32 &&& 1431655765)).toUInt32 >>> ((2 : Int32).toUInt32 &&& Int32.toUInt32 31)).toInt32 &&& 858993459)) + ((((x - ((x.toUInt32 >>> ((1 : Int32).toUInt32 &&& Int32.toUInt32 31)).toInt32 &&& 1431655765)) &&& 858993459) + (((x - ((x.toUInt32 >>> ((1 : Int32).toUInt32 &&& Int32.toUInt32 31)).toInt32 &&& 1431655765)).toUInt32 >>> ((2 : Int32).toUInt32 &&& Int32.toUInt32 31)).toInt32 &&& 858993459)).toUInt32 >>> ((4 : Int32).toUInt32 &&& Int32.toUInt32 31)).toInt32) &&& 252645135).toUInt32 >>> ((8 : Int32).toUInt32 &&& Int32.toUInt32 31)).toInt32).toUInt32 >>> ((16 : Int32).toUInt32 &&& Int32.toUInt32 31)).toInt32) hx hb dJ3_bitCount_45 rfl ?_
  refine lv_iadd hx hb dJ3_bitCount_46 ?_
  refine lv_istore_n (lv' := [(0, .int (((((((x - ((x.toUInt32 >>> ((1 : Int32).toUInt32 &&& Int32.toUInt32 31)).toInt32 &&& 1431655765)) &&& 858993459) + (((x - ((x.toUInt32 >>> ((1 : Int32).toUInt32 &&& Int32.toUInt32 31)).toInt32 &&& 1431655765)).toUInt32 >>> ((2 : Int32).toUInt32 &&& Int32.toUInt32 31)).toInt32 &&& 858993459)) + ((((x - ((x.toUInt32 >>> ((1 : Int32).toUInt32 &&& Int32.toUInt32 31)).toInt32 &&& 1431655765)) &&& 858993459) + (((x - ((x.toUInt32 >>> ((1 : Int32).toUInt32 &&& Int32.toUInt32 31)).toInt32 &&& 1431655765)).toUInt32 >>> ((2 : Int32).toUInt32 &&& Int32.toUInt32 31)).toInt32 &&& 858993459)).toUInt32 >>> ((4 : Int32).toUInt32 &&& Int32.toUInt32 31)).toInt32) &&& 252645135) + ((((((x - ((x.toUInt32 >>> ((1 : Int32).toUInt32 &&& Int32.toUInt32 31)).toInt32 &&& 1431655765)) &&& 858993459) + (((x - ((x.toUInt32 >>> ((1 : Int32).toUInt32 &&& Int32.toUInt32 31)).toInt32 &&& 1431655765)).toUInt32 >>> ((2 : Int32).toUInt32 &&& Int32.toUInt32 31)).toInt32 &&& 858993459)) + ((((x - ((x.toUInt32 >>> ((1 : Int32).toUInt32 &&& Int32.toUInt32 31)).toInt32 &&& 1431655765)) &&& 858993459) + (((x - ((x.toUInt32 >>> ((1 : Int32).toUInt32 &&& Int32.toUInt32 31)).toInt32 &&& 1431655765)).toUInt32 >>> ((2 : Int32).toUInt32 &&& Int32.toUInt32 31)).toInt32 &&& 858993459)).toUInt32 >>> ((4 : Int32).toUInt32 &&& Int32.toUInt32 31)).toInt32) &&& 252645135).toUInt32 >>> ((8 : Int32).toUInt32 &&& Int32.toUInt32 31)).toInt32) + (((((((x - ((x.toUInt32 >>> ((1 : Int32).toUInt32 &&& Int32.toUInt32 31)).toInt32 &&& 1431655765)) &&& 858993459) + (((x - ((x.toUInt32 >>> ((1 : Int32).toUInt32 &&& Int32.toUInt32 31)).toInt32 &&& 1431655765)).toUInt32 >>> ((2 : Int32).toUInt32 &&& Int32.toUInt32 31)).toInt32 &&& 858993459)) + ((((x - ((x.toUInt32 >>> ((1 : Int32).toUInt32 &&& Int32.toUInt32 31)).toInt32 &&& 1431655765)) &&& 858993459) + (((x - ((x.toUInt32 >>> ((1 : Int32).toUInt32 &&& Int32.toUInt32 31)).toInt32 &&& 1431655765)).toUInt32 >>> ((2 : Int32).toUInt32 &&& Int32.toUInt32 31)).toInt32 &&& 858993459)).toUInt32 >>> ((4 : Int32).toUInt32 &&& Int32.toUInt32 31)).toInt32) &&& 252645135) + ((((((x - ((x.toUInt32 >>> ((1 : Int32).toUInt32 &&& Int32.toUInt32 31)).toInt32 &&& 1431655765)) &&& 858993459) + (((x - ((x.toUInt32 >>> ((1 : Int32).toUInt32 &&& Int32.toUInt32 31)).toInt32 &&& 1431655765)).toUInt32 >>> ((2 : Int32).toUInt32 &&& Int32.toUInt32 31)).toInt32 &&& 858993459)) + ((((x - ((x.toUInt32 >>> ((1 : Int32).toUInt32 &&& Int32.toUInt32 31)).toInt32 &&& 1431655765)) &&& 858993459) + (((x - ((x.toUInt32 >>> ((1 : Int32).toUInt32 &&& Int32.toUInt32 31)).toInt32 &&& 1431655765)).toUInt32 >>> ((2 : Int32).toUInt32 &&& Int32.toUInt32 31)).toInt32 &&& 858993459)).toUInt32 >>> ((4 : Int32).toUInt32 &&& Int32.toUInt32 31)).toInt32) &&& 252645135).toUInt32 >>> ((8 : Int32).toUInt32 &&& Int32.toUInt32 31)).toInt32).toUInt32 >>> ((16 : Int32).toUInt32 &&& Int32.toUInt32 31)).toInt32))]) hx hb dJ3_bitCount_47 rfl hl (by decide) rfl (fun ls hl => ?_)
  refine lv_iload_n hx hb dJ3_bitCount_48 rfl (lv_at hl 0 rfl) ?_
  refine lv_bipush (v := 63) hx hb dJ3_bitCount_49 (by decide) ?_
  refine lv_iand hx hb dJ3_bitCount_51 ?_
  exact W.iret (v := ((((((((x - ((x.toUInt32 >>> ((1 : Int32).toUInt32 &&& Int32.toUInt32 31)).toInt32 &&& 1431655765)) &&& 858993459) + (((x - ((x.toUInt32 >>> ((1 : Int32).toUInt32 &&& Int32.toUInt32 31)).toInt32 &&& 1431655765)).toUInt32 >>> ((2 : Int32).toUInt32 &&& Int32.toUInt32 31)).toInt32 &&& 858993459)) + ((((x - ((x.toUInt32 >>> ((1 : Int32).toUInt32 &&& Int32.toUInt32 31)).toInt32 &&& 1431655765)) &&& 858993459) + (((x - ((x.toUInt32 >>> ((1 : Int32).toUInt32 &&& Int32.toUInt32 31)).toInt32 &&& 1431655765)).toUInt32 >>> ((2 : Int32).toUInt32 &&& Int32.toUInt32 31)).toInt32 &&& 858993459)).toUInt32 >>> ((4 : Int32).toUInt32 &&& Int32.toUInt32 31)).toInt32) &&& 252645135) + ((((((x - ((x.toUInt32 >>> ((1 : Int32).toUInt32 &&& Int32.toUInt32 31)).toInt32 &&& 1431655765)) &&& 858993459) + (((x - ((x.toUInt32 >>> ((1 : Int32).toUInt32 &&& Int32.toUInt32 31)).toInt32 &&& 1431655765)).toUInt32 >>> ((2 : Int32).toUInt32 &&& Int32.toUInt32 31)).toInt32 &&& 858993459)) + ((((x - ((x.toUInt32 >>> ((1 : Int32).toUInt32 &&& Int32.toUInt32 31)).toInt32 &&& 1431655765)) &&& 858993459) + (((x - ((x.toUInt32 >>> ((1 : Int32).toUInt32 &&& Int32.toUInt32 31)).toInt32 &&& 1431655765)).toUInt32 >>> ((2 : Int32).toUInt32 &&& Int32.toUInt32 31)).toInt32 &&& 858993459)).toUInt32 >>> ((4 : Int32).toUInt32 &&& Int32.toUInt32 31)).toInt32) &&& 252645135).toUInt32 >>> ((8 : Int32).toUInt32 &&& Int32.toUInt32 31)).toInt32) + (((((((x - ((x.toUInt32 >>> ((1 : Int32).toUInt32 &&& Int32.toUInt32 31)).toInt32 &&& 1431655765)) &&& 858993459) + (((x - ((x.toUInt32 >>> ((1 : Int32).toUInt32 &&& Int32.toUInt32 31)).toInt32 &&& 1431655765)).toUInt32 >>> ((2 : Int32).toUInt32 &&& Int32.toUInt32 31)).toInt32 &&& 858993459)) + ((((x - ((x.toUInt32 >>> ((1 : Int32).toUInt32 &&& Int32.toUInt32 31)).toInt32 &&& 1431655765)) &&& 858993459) + (((x - ((x.toUInt32 >>> ((1 : Int32).toUInt32 &&& Int32.toUInt32 31)).toInt32 &&& 1431655765)).toUInt32 >>> ((2 : Int32).toUInt32 &&& Int32.toUInt32 31)).toInt32 &&& 858993459)).toUInt32 >>> ((4 : Int32).toUInt32 &&& Int32.toUInt32 31)).toInt32) &&& 252645135) + ((((((x - ((x.toUInt32 >>> ((1 : Int32).toUInt32 &&& Int32.toUInt32 31)).toInt32 &&& 1431655765)) &&& 858993459) + (((x - ((x.toUInt32 >>> ((1 : Int32).toUInt32 &&& Int32.toUInt32 31)).toInt32 &&& 1431655765)).toUInt32 >>> ((2 : Int32).toUInt32 &&& Int32.toUInt32 31)).toInt32 &&& 858993459)) + ((((x - ((x.toUInt32 >>> ((1 : Int32).toUInt32 &&& Int32.toUInt32 31)).toInt32 &&& 1431655765)) &&& 858993459) + (((x - ((x.toUInt32 >>> ((1 : Int32).toUInt32 &&& Int32.toUInt32 31)).toInt32 &&& 1431655765)).toUInt32 >>> ((2 : Int32).toUInt32 &&& Int32.toUInt32 31)).toInt32 &&& 858993459)).toUInt32 >>> ((4 : Int32).toUInt32 &&& Int32.toUInt32 31)).toInt32) &&& 252645135).toUInt32 >>> ((8 : Int32).toUInt32 &&& Int32.toUInt32 31)).toInt32).toUInt32 >>> ((16 : Int32).toUInt32 &&& Int32.toUInt32 31)).toInt32) &&& 63)) hx hb hr (fun t ht hW => ⟨_, rfl, rfl, ht⟩) (fun q hq => by cases hq) dJ3_bitCount_52
set_option maxHeartbeats 4000000 in
set_option maxRecDepth 100000 in
theorem mt_X0_tryOrders_0 (l : Launch) (D : va_G) (dA : Nat → ClassId) (rr : Nat → Option Nat) (xs : Nat → mSh) (ad : Nat → Nat) (N : Nat) (hA : xA ad N) (σ : mMem) (v : Nat) (hv : xw v) (hv75 : v ≠ 75) (A : AW) (hA0 : aR σ v A) (n : Nat) (hn : A.2.2.2.length = n) (hn6 : n ≤ 6) (x2 : Int32) (hx2 : x2 = nI 0) (x3 : Int32) (dp : Nat) (hx3 : x3 = nI dp) (pre : List Nat) (hpre : ∀ j, j < n → σ 20 j = nI (lf pre j)) (hgood : okO (lf pre) n) (Zb : Int32 × Int32 × (Nat → Nat)) (hB0 : bR σ n Zb) : Met l yX0_tryOrders (ws_ yX0_tryOrders cX0_tryOrders 6 none) ({ frames := 4, cells := 0, slots := 0, locals := 131 }) (va_Pc [.ref (ad 0), .ref (ad v), .int x2, .int x3] (mPre D dA (shX rr xs) ad N σ)) (va_Qv (fun (u : mMem) => bR u n (List.foldl (stB A) Zb ([pre])) ∧ (∀ j, j < n → u 20 j = σ 20 j) ∧ kpT σ u) (mB D dA (shX rr xs) ad N) (mAd ad N)) 0 0 (mAd ad N) := by
  refine Met.ofW (cc := cX0_tryOrders) (maxL := 6) (ret := none) (by decide) rfl ?_
  intro pp ee ss mm args below meth cd s₁ B hml hv
  obtain ⟨rfl, hP, hE⟩ := hv
  have hx := B.exec
  have hb := B.bytes
  have hr := B.returns
  have hts := atoms_spec (ws := ws_ yX0_tryOrders cX0_tryOrders 6 none) B.pre
  have hts : ∀ w ∈ lw_all, w.before _ ss = true := fun w h => hts w (List.mem_cons_of_mem _ h)
  have hown : ss.vm.findClass RX0 = some mm.cls := findClass_of_methodNamed B.named
  have hlocks := B.notSynchronized
  have hD := hA.2.self
  have hS : va_S (mAd ad N) ss.heap ss.heap [] := va_S.rf
  have hNN := hA.1
  obtain ⟨hv1, hv2, hv3⟩ := id hv
  have hl := lv_entry ([.ref (ad 0), .ref (ad v), .int x2, .int x3]) (n := 6) (Nat.le_of_ble_eq_true rfl)
  rw [lg_entry_eq]
  generalize (lg_sl ([.ref (ad 0), .ref (ad v), .int x2, .int x3]) ++ List.replicate (6 - (lg_sl ([.ref (ad 0), .ref (ad v), .int x2, .int x3])).length) Slot.unset).toArray = ls at hl ⊢
  have hl : lv_has ls 6 [(0, .ref (ad 0)), (1, .ref (ad v)), (2, .int x2), (3, .int x3)] := hl
  refine lv_iload_n hx hb dX0_tryOrders_0 rfl (lv_at hl 2 rfl) ?_
  refine lv_if_ne (tgt := 82) hx hb dX0_tryOrders_1 (by decide) (fun c_1 => ?_) (fun c_1 => ?_)
  · have nc_1 : 0 ≠ 0 := mi_ne hx2 rfl (by omega) (by omega) c_1
    exact absurd rfl nc_1
  · have nc_1 : 0 = 0 := mi_eq hx2 rfl (by omega) (by omega) c_1
    refine lv_aload_n hx hb dX0_tryOrders_4 rfl (lv_at hl 0 rfl) ?_
    refine lv_aload_n hx hb dX0_tryOrders_5 rfl (lv_at hl 1 rfl) ?_
    refine va_calli (va_runV (As := [.ref (ad v)]) (rest := []) ⟨hx, hb, hml, hown, hts⟩ (mt_X0_daysBy l D dA rr xs ad N hA σ v hv hv75 A hA0 n hn hn6 (lf pre) hpre hgood) (cwV 1 hts (lw_V q557 q559 qs18 q45 q560) rfl rfl rfl (by decide +kernel) ⟨Nat.le_of_ble_eq_true rfl, Nat.le_of_ble_eq_true rfl⟩) ⟨mPre.blind, m_recv hE hP 0 (xl_n hA (by decide)) rfl rfl, mPre.at hE hP⟩ rfl rfl hl.1 rfl (lv_room (Nat.le_of_ble_eq_true rfl)) dX0_tryOrders_6 ⟨Nat.le_of_ble_eq_true rfl, Nat.le_of_ble_eq_true rfl⟩) hS (fun q _ h => h) (fun q h => h) (fun r_2 ur_2 tr_2 H locs ht h0 hr_2 hB h1 h2 hS => ?_)
    obtain ⟨rfl, hpd, hkp⟩ := hr_2
    have hP := mB.get ht hB
    refine lv_istore (lv' := [(4, .int ((evO (lf pre) A).1)), (0, .ref (ad 0)), (1, .ref (ad v)), (2, .int x2), (3, .int x3)]) hx hb dX0_tryOrders_9 hl (by decide) rfl (fun ls hl => ?_)
    refine lv_iload hx hb dX0_tryOrders_11 (lv_at hl 0 rfl) ?_
    refine lv_if_lt (tgt := 81) hx hb dX0_tryOrders_13 (by decide) (fun c_3 => ?_) (fun c_3 => ?_)
    · skip
      have hst : stB A Zb pre = Zb := if_neg (fun q => absurd q.1 (Int32.not_le.mpr c_3))
      exact W.vret hx hb hr (fun t ht hW => ⟨⟨_, rfl, ⟨by show bR _ n (stB A Zb pre); rw [hst]; exact bR_kp hkp hB0, fun j hj => hkp 20 j (by decide) (by decide) (by decide) (by omega), kpT_of hkp⟩, mB.of ht hP⟩, hS.F ht⟩) hS.2.2 dX0_tryOrders_81
    · skip
      refine lv_aload_n hx hb dX0_tryOrders_16 rfl (lv_at hl 1 rfl) ?_
      refine mg_get hx hb hts in_X0 hown hE hP 0 (xl_n hA (by decide)) rfl rfl 13 rfl (by decide) (hts _ q277) (fun _ h9 => h9) dX0_tryOrders_17 ?_
      refine lv_rwi ((hkp 0 13 (by decide) (by decide) (by decide) (by decide)).trans hB0.1) ?_
      refine lv_if_lt (tgt := 52) hx hb dX0_tryOrders_20 (by decide) (fun c_4 => ?_) (fun c_4 => ?_)
      · skip
        refine lv_aload_n hx hb dX0_tryOrders_52 rfl (lv_at hl 1 rfl) ?_
        refine lv_iload hx hb dX0_tryOrders_53 (lv_at hl 0 rfl) ?_
        refine mg_put (v := (evO (lf pre) A).1) (ty := .int) hx hb hts in_X0 tyX0 tyX0_ok nmX0 hown hE hD hP hS 0 (xl_n hA (by decide)) rfl rfl 13 rfl (by decide) (hts _ q277) (fun _ h9 => h9) rfl (by decide +kernel) rfl rfl dX0_tryOrders_55 (fun H locs hP hS => ?_)
        refine lv_aload_n hx hb dX0_tryOrders_58 rfl (lv_at hl 1 rfl) ?_
        refine lv_aload_n hx hb dX0_tryOrders_59 rfl (lv_at hl 1 rfl) ?_
        refine mg_get hx hb hts in_X0 hown hE hP 0 (xl_n hA (by decide)) rfl rfl 15 rfl (by decide) (hts _ q279) (fun _ h9 => h9) dX0_tryOrders_60 ?_
        refine lv_rwi (mup_ne2 (by omega)) ?_
        refine lv_rwi (hpd) ?_
        refine mg_put (v := (evO (lf pre) A).2) (ty := .int) hx hb hts in_X0 tyX0 tyX0_ok nmX0 hown hE hD hP hS 0 (xl_n hA (by decide)) rfl rfl 14 rfl (by decide) (hts _ q278) (fun _ h9 => h9) rfl (by decide +kernel) rfl rfl dX0_tryOrders_63 (fun H locs hP hS => ?_)
        refine lv_aload_n hx hb dX0_tryOrders_66 rfl (lv_at hl 1 rfl) ?_
        refine mg_ref hx hb hts in_X0 hown hE hP 0 (xl_n hA (by decide)) rfl rfl 11 rfl (by decide) (hts _ q275) (fun _ h9 => h9) dX0_tryOrders_67 ?_
        refine lv_iconst (v := 0) hx hb dX0_tryOrders_70 (by decide) ?_
        refine lv_aload_n hx hb dX0_tryOrders_71 rfl (lv_at hl 1 rfl) ?_
        refine mg_ref hx hb hts in_X0 hown hE hP 0 (xl_n hA (by decide)) rfl rfl 12 rfl (by decide) (hts _ q276) (fun _ h9 => h9) dX0_tryOrders_72 ?_
        refine lv_iconst (v := 0) hx hb dX0_tryOrders_75 (by decide) ?_
        refine lv_bipush (v := 6) hx hb dX0_tryOrders_76 (by decide) ?_
        refine mg_cpy hx hb (by rw [hml]; exact hl.1.symm) hown (hts _ q443) (hts _ q445) (hts _ q444) (hts _ q57) hE hD hP hS 20 21 (xl_n hA (by decide)) (xl_n hA (by decide)) rfl rfl 0 0 6 rfl rfl rfl (by omega) (by omega) (by decide) (by decide) (Nat.le_of_ble_eq_true rfl) (Nat.le_of_ble_eq_true rfl) dX0_tryOrders_78 (fun H locs hP hS => ?_)
        rw [show (mup (mup ur_2 0 13 ((evO (lf pre) A).1)) 0 14 ((evO (lf pre) A).2)) 20 = ur_2 20 from (mup_row (by omega)).trans (mup_row (by omega))] at hP
        rw [show (mup (mup ur_2 0 13 ((evO (lf pre) A).1)) 0 14 ((evO (lf pre) A).2)) 21 = ur_2 21 from (mup_row (by omega)).trans (mup_row (by omega))] at hP
        have hst : stB A Zb pre = ((evO (lf pre) A).1, (evO (lf pre) A).2, lf pre) := if_pos ⟨Int32.not_lt.mp c_3, Or.inl c_4⟩
        exact W.vret hx hb hr (fun t ht hW => ⟨⟨_, rfl, ⟨by show bR _ n (stB A Zb pre); rw [hst]; exact bR_new hkp hpre hn6, fun j hj => (lf_20 _ _ _ _).trans (hkp 20 j (by decide) (by decide) (by decide) (by omega)), lf_kp hkp⟩, mB.of ht hP⟩, hS.F ht⟩) hS.2.2 dX0_tryOrders_81
      · skip
        refine lv_iload hx hb dX0_tryOrders_23 (lv_at hl 0 rfl) ?_
        refine lv_aload_n hx hb dX0_tryOrders_25 rfl (lv_at hl 1 rfl) ?_
        refine mg_get hx hb hts in_X0 hown hE hP 0 (xl_n hA (by decide)) rfl rfl 13 rfl (by decide) (hts _ q277) (fun _ h9 => h9) dX0_tryOrders_26 ?_
        refine lv_rwi ((hkp 0 13 (by decide) (by decide) (by decide) (by decide)).trans hB0.1) ?_
        refine lv_icmp_lt (tgt := 52) hx hb dX0_tryOrders_29 (by decide) (fun c_5 => ?_) (fun c_5 => ?_)
        · skip
          refine lv_aload_n hx hb dX0_tryOrders_52 rfl (lv_at hl 1 rfl) ?_
          refine lv_iload hx hb dX0_tryOrders_53 (lv_at hl 0 rfl) ?_
          refine mg_put (v := (evO (lf pre) A).1) (ty := .int) hx hb hts in_X0 tyX0 tyX0_ok nmX0 hown hE hD hP hS 0 (xl_n hA (by decide)) rfl rfl 13 rfl (by decide) (hts _ q277) (fun _ h9 => h9) rfl (by decide +kernel) rfl rfl dX0_tryOrders_55 (fun H locs hP hS => ?_)
          refine lv_aload_n hx hb dX0_tryOrders_58 rfl (lv_at hl 1 rfl) ?_
          refine lv_aload_n hx hb dX0_tryOrders_59 rfl (lv_at hl 1 rfl) ?_
          refine mg_get hx hb hts in_X0 hown hE hP 0 (xl_n hA (by decide)) rfl rfl 15 rfl (by decide) (hts _ q279) (fun _ h9 => h9) dX0_tryOrders_60 ?_
          refine lv_rwi (mup_ne2 (by omega)) ?_
          refine lv_rwi (hpd) ?_
          refine mg_put (v := (evO (lf pre) A).2) (ty := .int) hx hb hts in_X0 tyX0 tyX0_ok nmX0 hown hE hD hP hS 0 (xl_n hA (by decide)) rfl rfl 14 rfl (by decide) (hts _ q278) (fun _ h9 => h9) rfl (by decide +kernel) rfl rfl dX0_tryOrders_63 (fun H locs hP hS => ?_)
          refine lv_aload_n hx hb dX0_tryOrders_66 rfl (lv_at hl 1 rfl) ?_
          refine mg_ref hx hb hts in_X0 hown hE hP 0 (xl_n hA (by decide)) rfl rfl 11 rfl (by decide) (hts _ q275) (fun _ h9 => h9) dX0_tryOrders_67 ?_
          refine lv_iconst (v := 0) hx hb dX0_tryOrders_70 (by decide) ?_
          refine lv_aload_n hx hb dX0_tryOrders_71 rfl (lv_at hl 1 rfl) ?_
          refine mg_ref hx hb hts in_X0 hown hE hP 0 (xl_n hA (by decide)) rfl rfl 12 rfl (by decide) (hts _ q276) (fun _ h9 => h9) dX0_tryOrders_72 ?_
          refine lv_iconst (v := 0) hx hb dX0_tryOrders_75 (by decide) ?_
          refine lv_bipush (v := 6) hx hb dX0_tryOrders_76 (by decide) ?_
          refine mg_cpy hx hb (by rw [hml]; exact hl.1.symm) hown (hts _ q443) (hts _ q445) (hts _ q444) (hts _ q57) hE hD hP hS 20 21 (xl_n hA (by decide)) (xl_n hA (by decide)) rfl rfl 0 0 6 rfl rfl rfl (by omega) (by omega) (by decide) (by decide) (Nat.le_of_ble_eq_true rfl) (Nat.le_of_ble_eq_true rfl) dX0_tryOrders_78 (fun H locs hP hS => ?_)
          rw [show (mup (mup ur_2 0 13 ((evO (lf pre) A).1)) 0 14 ((evO (lf pre) A).2)) 20 = ur_2 20 from (mup_row (by omega)).trans (mup_row (by omega))] at hP
          rw [show (mup (mup ur_2 0 13 ((evO (lf pre) A).1)) 0 14 ((evO (lf pre) A).2)) 21 = ur_2 21 from (mup_row (by omega)).trans (mup_row (by omega))] at hP
          have hst : stB A Zb pre = ((evO (lf pre) A).1, (evO (lf pre) A).2, lf pre) := if_pos ⟨Int32.not_lt.mp c_3, Or.inr (Or.inl c_5)⟩
          exact W.vret hx hb hr (fun t ht hW => ⟨⟨_, rfl, ⟨by show bR _ n (stB A Zb pre); rw [hst]; exact bR_new hkp hpre hn6, fun j hj => (lf_20 _ _ _ _).trans (hkp 20 j (by decide) (by decide) (by decide) (by omega)), lf_kp hkp⟩, mB.of ht hP⟩, hS.F ht⟩) hS.2.2 dX0_tryOrders_81
        · skip
          refine lv_iload hx hb dX0_tryOrders_32 (lv_at hl 0 rfl) ?_
          refine lv_aload_n hx hb dX0_tryOrders_34 rfl (lv_at hl 1 rfl) ?_
          refine mg_get hx hb hts in_X0 hown hE hP 0 (xl_n hA (by decide)) rfl rfl 13 rfl (by decide) (hts _ q277) (fun _ h9 => h9) dX0_tryOrders_35 ?_
          refine lv_rwi ((hkp 0 13 (by decide) (by decide) (by decide) (by decide)).trans hB0.1) ?_
          refine lv_icmp_ne (tgt := 81) hx hb dX0_tryOrders_38 (by decide) (fun c_6 => ?_) (fun c_6 => ?_)
          · skip
            have hst : stB A Zb pre = Zb := if_neg (fun q => q.2.elim c_4 (fun q => q.elim c_5 (fun q => absurd q.1 c_6)))
            exact W.vret hx hb hr (fun t ht hW => ⟨⟨_, rfl, ⟨by show bR _ n (stB A Zb pre); rw [hst]; exact bR_kp hkp hB0, fun j hj => hkp 20 j (by decide) (by decide) (by decide) (by omega), kpT_of hkp⟩, mB.of ht hP⟩, hS.F ht⟩) hS.2.2 dX0_tryOrders_81
          · skip
            refine lv_aload_n hx hb dX0_tryOrders_41 rfl (lv_at hl 1 rfl) ?_
            refine mg_get hx hb hts in_X0 hown hE hP 0 (xl_n hA (by decide)) rfl rfl 15 rfl (by decide) (hts _ q279) (fun _ h9 => h9) dX0_tryOrders_42 ?_
            refine lv_rwi (hpd) ?_
            refine lv_aload_n hx hb dX0_tryOrders_45 rfl (lv_at hl 1 rfl) ?_
            refine mg_get hx hb hts in_X0 hown hE hP 0 (xl_n hA (by decide)) rfl rfl 14 rfl (by decide) (hts _ q278) (fun _ h9 => h9) dX0_tryOrders_46 ?_
            refine lv_rwi ((hkp 0 14 (by decide) (by decide) (by decide) (by decide)).trans hB0.2.1) ?_
            refine lv_icmp_ge (tgt := 81) hx hb dX0_tryOrders_49 (by decide) (fun c_7 => ?_) (fun c_7 => ?_)
            · skip
              have hst : stB A Zb pre = Zb := if_neg (fun q => q.2.elim c_4 (fun q => q.elim c_5 (fun q => absurd q.2 (Int32.not_lt.mpr c_7))))
              exact W.vret hx hb hr (fun t ht hW => ⟨⟨_, rfl, ⟨by show bR _ n (stB A Zb pre); rw [hst]; exact bR_kp hkp hB0, fun j hj => hkp 20 j (by decide) (by decide) (by decide) (by omega), kpT_of hkp⟩, mB.of ht hP⟩, hS.F ht⟩) hS.2.2 dX0_tryOrders_81
            · skip
              refine lv_aload_n hx hb dX0_tryOrders_52 rfl (lv_at hl 1 rfl) ?_
              refine lv_iload hx hb dX0_tryOrders_53 (lv_at hl 0 rfl) ?_
              refine mg_put (v := (evO (lf pre) A).1) (ty := .int) hx hb hts in_X0 tyX0 tyX0_ok nmX0 hown hE hD hP hS 0 (xl_n hA (by decide)) rfl rfl 13 rfl (by decide) (hts _ q277) (fun _ h9 => h9) rfl (by decide +kernel) rfl rfl dX0_tryOrders_55 (fun H locs hP hS => ?_)
              refine lv_aload_n hx hb dX0_tryOrders_58 rfl (lv_at hl 1 rfl) ?_
              refine lv_aload_n hx hb dX0_tryOrders_59 rfl (lv_at hl 1 rfl) ?_
              refine mg_get hx hb hts in_X0 hown hE hP 0 (xl_n hA (by decide)) rfl rfl 15 rfl (by decide) (hts _ q279) (fun _ h9 => h9) dX0_tryOrders_60 ?_
              refine lv_rwi (mup_ne2 (by omega)) ?_
              refine lv_rwi (hpd) ?_
              refine mg_put (v := (evO (lf pre) A).2) (ty := .int) hx hb hts in_X0 tyX0 tyX0_ok nmX0 hown hE hD hP hS 0 (xl_n hA (by decide)) rfl rfl 14 rfl (by decide) (hts _ q278) (fun _ h9 => h9) rfl (by decide +kernel) rfl rfl dX0_tryOrders_63 (fun H locs hP hS => ?_)
              refine lv_aload_n hx hb dX0_tryOrders_66 rfl (lv_at hl 1 rfl) ?_
              refine mg_ref hx hb hts in_X0 hown hE hP 0 (xl_n hA (by decide)) rfl rfl 11 rfl (by decide) (hts _ q275) (fun _ h9 => h9) dX0_tryOrders_67 ?_
              refine lv_iconst (v := 0) hx hb dX0_tryOrders_70 (by decide) ?_
              refine lv_aload_n hx hb dX0_tryOrders_71 rfl (lv_at hl 1 rfl) ?_
              refine mg_ref hx hb hts in_X0 hown hE hP 0 (xl_n hA (by decide)) rfl rfl 12 rfl (by decide) (hts _ q276) (fun _ h9 => h9) dX0_tryOrders_72 ?_
              refine lv_iconst (v := 0) hx hb dX0_tryOrders_75 (by decide) ?_
              refine lv_bipush (v := 6) hx hb dX0_tryOrders_76 (by decide) ?_
              refine mg_cpy hx hb (by rw [hml]; exact hl.1.symm) hown (hts _ q443) (hts _ q445) (hts _ q444) (hts _ q57) hE hD hP hS 20 21 (xl_n hA (by decide)) (xl_n hA (by decide)) rfl rfl 0 0 6 rfl rfl rfl (by omega) (by omega) (by decide) (by decide) (Nat.le_of_ble_eq_true rfl) (Nat.le_of_ble_eq_true rfl) dX0_tryOrders_78 (fun H locs hP hS => ?_)
              rw [show (mup (mup ur_2 0 13 ((evO (lf pre) A).1)) 0 14 ((evO (lf pre) A).2)) 20 = ur_2 20 from (mup_row (by omega)).trans (mup_row (by omega))] at hP
              rw [show (mup (mup ur_2 0 13 ((evO (lf pre) A).1)) 0 14 ((evO (lf pre) A).2)) 21 = ur_2 21 from (mup_row (by omega)).trans (mup_row (by omega))] at hP
              have hst : stB A Zb pre = ((evO (lf pre) A).1, (evO (lf pre) A).2, lf pre) := if_pos ⟨Int32.not_lt.mp c_3, Or.inr (Or.inr ⟨c_6, Int32.not_le.mp c_7⟩)⟩
              exact W.vret hx hb hr (fun t ht hW => ⟨⟨_, rfl, ⟨by show bR _ n (stB A Zb pre); rw [hst]; exact bR_new hkp hpre hn6, fun j hj => (lf_20 _ _ _ _).trans (hkp 20 j (by decide) (by decide) (by decide) (by omega)), lf_kp hkp⟩, mB.of ht hP⟩, hS.F ht⟩) hS.2.2 dX0_tryOrders_81
set_option maxHeartbeats 4000000 in
set_option maxRecDepth 100000 in
theorem mt_X0_tryOrders_1 (l : Launch) (D : va_G) (dA : Nat → ClassId) (rr : Nat → Option Nat) (xs : Nat → mSh) (ad : Nat → Nat) (N : Nat) (hA : xA ad N) (σ : mMem) (v : Nat) (hv : xw v) (hv75 : v ≠ 75) (A : AW) (hA0 : aR σ v A) (n : Nat) (hn : A.2.2.2.length = n) (hn6 : n ≤ 6) (hv78 : v ≠ 78) (ru : Nat) (hru : σ 10 0 = nI ru) (hru3 : ru < 3) (x2 : Int32) (mask : Nat) (hx2 : x2 = nI mask) (hm64 : mask < 64) (hpc : popc mask = 1) (x3 : Int32) (dp : Nat) (hx3 : x3 = nI dp) (pre : List Nat) (hpl : pre.length = dp) (hdp : dp + 1 = n) (hpre : ∀ j, j < dp → σ 20 j = nI (lf pre j)) (hgood : ∀ o, o ∈ dfsL ru n 1 mask pre → okO (lf o) n) (Zb : Int32 × Int32 × (Nat → Nat)) (hB0 : bR σ n Zb) : Met l yX0_tryOrders (ws_ yX0_tryOrders cX0_tryOrders 6 none) ({ frames := 5, cells := 0, slots := 0, locals := 156 }) (va_Pc [.ref (ad 0), .ref (ad v), .int x2, .int x3] (mPre D dA (shX rr xs) ad N σ)) (va_Qv (fun (u : mMem) => bR u n (List.foldl (stB A) Zb (dfsL ru n 1 mask pre)) ∧ (∀ j, j < dp → u 20 j = σ 20 j) ∧ kpT σ u) (mB D dA (shX rr xs) ad N) (mAd ad N)) 0 0 (mAd ad N) := by
  refine Met.ofW (cc := cX0_tryOrders) (maxL := 6) (ret := none) (by decide) rfl ?_
  intro pp ee ss mm args below meth cd s₁ B hml hv
  obtain ⟨rfl, hP, hE⟩ := hv
  have hx := B.exec
  have hb := B.bytes
  have hr := B.returns
  have hts := atoms_spec (ws := ws_ yX0_tryOrders cX0_tryOrders 6 none) B.pre
  have hts : ∀ w ∈ lw_all, w.before _ ss = true := fun w h => hts w (List.mem_cons_of_mem _ h)
  have hown : ss.vm.findClass RX0 = some mm.cls := findClass_of_methodNamed B.named
  have hlocks := B.notSynchronized
  have hD := hA.2.self
  have hS : va_S (mAd ad N) ss.heap ss.heap [] := va_S.rf
  have hNN := hA.1
  obtain ⟨hv1, hv2, hv3⟩ := id hv
  have hm0 : mask ≠ 0 := pc_ne hpc (by decide)
  have hl := lv_entry ([.ref (ad 0), .ref (ad v), .int x2, .int x3]) (n := 6) (Nat.le_of_ble_eq_true rfl)
  rw [lg_entry_eq]
  generalize (lg_sl ([.ref (ad 0), .ref (ad v), .int x2, .int x3]) ++ List.replicate (6 - (lg_sl ([.ref (ad 0), .ref (ad v), .int x2, .int x3])).length) Slot.unset).toArray = ls at hl ⊢
  have hl : lv_has ls 6 [(0, .ref (ad 0)), (1, .ref (ad v)), (2, .int x2), (3, .int x3)] := hl
  refine lv_iload_n hx hb dX0_tryOrders_0 rfl (lv_at hl 2 rfl) ?_
  refine lv_if_ne (tgt := 82) hx hb dX0_tryOrders_1 (by decide) (fun c_1 => ?_) (fun c_1 => ?_)
  · have nc_1 : mask ≠ 0 := mi_ne hx2 rfl (by omega) (by omega) c_1
    refine lv_aload_n hx hb dX0_tryOrders_82 rfl (lv_at hl 0 rfl) ?_
    refine mg_ref hx hb hts in_X0 hown hE hP 0 (xl_n hA (by decide)) rfl rfl 4 rfl (by decide) (hts _ q268) (fun _ h9 => h9) dX0_tryOrders_83 ?_
    refine lv_astore (lv' := [(4, .ref (ad 78)), (0, .ref (ad 0)), (1, .ref (ad v)), (2, .int x2), (3, .int x3)]) hx hb dX0_tryOrders_86 hl (by decide) rfl (fun ls hl => ?_)
    refine lv_iconst (v := 0) hx hb dX0_tryOrders_88 (by decide) ?_
    refine lv_istore (lv' := [(5, .int 0), (4, .ref (ad 78)), (0, .ref (ad 0)), (1, .ref (ad v)), (2, .int x2), (3, .int x3)]) hx hb dX0_tryOrders_89 hl (by decide) rfl (fun ls hl => ?_)
    have lp91 : ∀ (fu : Nat) (c : Nat) (τ : mMem) (_ : c ≤ n) (_ : bR τ n (List.foldl (stB A) Zb ((List.range c).flatMap (dfG ru n 0 mask pre)))) (_ : ∀ j, j < dp → τ 20 j = σ 20 j) (_ : kpT σ τ) (_ : n - c < fu) (H : Heap) (locs : List Loc) (_ : va_P D xCl (mW dA (shX rr xs) ad N τ) H) (_ : va_S (mAd ad N) ss.heap H locs) (ls : Array Slot) (_ : lv_has ls 6 [(5, .int (nI c)), (4, .ref (ad 78)), (0, .ref (ad 0)), (1, .ref (ad v)), (2, .int x2), (3, .int x3)]), W pp l ee (headSpec (ws_ yX0_tryOrders cX0_tryOrders 6 none) ({ frames := 5, cells := 0, slots := 0, locals := 156 })).room ss mm ([.ref (ad 0), .ref (ad v), .int x2, .int x3] : List Value).toArray below meth cd H locs 0 0 (MQ below (va_Qv (fun (u : mMem) => bR u n (List.foldl (stB A) Zb (dfsL ru n 1 mask pre)) ∧ (∀ j, j < dp → u 20 j = σ 20 j) ∧ kpT σ u) (mB D dA (shX rr xs) ad N) (mAd ad N)) ([.ref (ad 0), .ref (ad v), .int x2, .int x3] : List Value).toArray ss 0 0 (mAd ad N)) (F0 mm 91 ls []) := by
      intro fu
      induction fu with
      | zero => intro c τ hc hbt hq hk hfu; exact absurd hfu (Nat.not_lt_zero _)
      | succ fu ih91 =>
        intro c τ hc hbt hq hk hfu H locs hP hS ls hl
        refine lv_iload hx hb dX0_tryOrders_91 (lv_at hl 0 rfl) ?_
        refine lv_aload_n hx hb dX0_tryOrders_93 rfl (lv_at hl 3 rfl) ?_
        refine mg_getN hx hb hts in_X5 hown hE hP v (xl_o hA hv) (shX_o hv) rfl 6 rfl (by decide) q127 (fun _ h9 => h9) dX0_tryOrders_94 ?_
        refine lv_icmp_ge (tgt := 171) hx hb dX0_tryOrders_97 (by decide) (fun c_2 => ?_) (fun c_2 => ?_)
        · have nc_2 : n ≤ c := mi_le (kpT_v hk hA0 hn (by omega) (by omega)) rfl (by omega) (by omega) c_2
          exact W.vret hx hb hr (fun t ht hW => ⟨⟨_, rfl, ⟨by rw [show c = n by omega] at hbt; exact hbt, hq, hk⟩, mB.of ht hP⟩, hS.F ht⟩) hS.2.2 dX0_tryOrders_171
        · have nc_2 : c < n := mi_nle (kpT_v hk hA0 hn (by omega) (by omega)) rfl (by omega) (by omega) c_2
          refine lv_aload hx hb dX0_tryOrders_100 (lv_at hl 1 rfl) ?_
          refine lv_iload_n hx hb dX0_tryOrders_102 rfl (lv_at hl 4 rfl) ?_
          refine vp_callSi (W.runS (As := [.int x2]) (rest := [.ref (ad 78)]) ⟨hx, hb, hml, hown, hts⟩ (mt_J3_bitCount l x2) (va_cwS 1 hts (lw_S q566 q567 q58 q568) rfl rfl rfl (by decide +kernel) ⟨Nat.le_of_ble_eq_true rfl, Nat.le_of_ble_eq_true rfl⟩) ⟨fun _ _ _ _ h => h, fun _ _ _ => ⟨rfl, trivial⟩⟩ rfl rfl hl.1 rfl (lv_room (Nat.le_of_ble_eq_true rfl)) dX0_tryOrders_103 ⟨Nat.le_of_ble_eq_true rfl, Nat.le_of_ble_eq_true rfl⟩) (fun r_3 hr_3 => ?_)
          subst hr_3
          refine lv_rwi (bc_nat hx2 hm64) ?_
          refine lv_rwi (congrArg nI hpc) ?_
          refine mg_putN (v := (nI 1)) (ty := .int) hx hb hts in_X5 tyX5 tyX5_ok nmX5 hown hE hD hP hS 78 (xl_o hA xw78) (shX_o xw78) rfl 6 rfl (by decide) q127 (fun _ h9 => h9) rfl (by decide +kernel) rfl rfl dX0_tryOrders_106 (fun H locs hP hS => ?_)
          refine lv_iload_n hx hb dX0_tryOrders_109 rfl (lv_at hl 4 rfl) ?_
          refine lv_iload hx hb dX0_tryOrders_110 (lv_at hl 0 rfl) ?_
          refine vp_callSi (W.runS (As := [.int x2, .int (nI c)]) (rest := []) ⟨hx, hb, hml, hown, hts⟩ (mt_X0_has l x2 (nI c)) (va_cwS 2 hts (lw_S q572 q573 q45 q574) rfl rfl rfl (by decide +kernel) ⟨Nat.le_of_ble_eq_true rfl, Nat.le_of_ble_eq_true rfl⟩) ⟨fun _ _ _ _ h => h, fun _ _ _ => ⟨rfl, trivial⟩⟩ rfl rfl hl.1 rfl (lv_room (Nat.le_of_ble_eq_true rfl)) dX0_tryOrders_112 ⟨Nat.le_of_ble_eq_true rfl, Nat.le_of_ble_eq_true rfl⟩) (fun r_4 hr_4 => ?_)
          subst hr_4
          refine lv_rwi (bi_c (tb_of hx2 hm64 (by omega))) ?_
          refine lv_if_eq (tgt := 165) hx hb dX0_tryOrders_115 (by decide) (fun c_5 => ?_) (fun c_5 => ?_)
          · have c_5 : ¬ (mask.testBit c = true) := bi_f c_5
            refine lv_iinc (v := (nI (c + 1))) (lv' := [(5, .int (nI (c + 1))), (4, .ref (ad 78)), (0, .ref (ad 0)), (1, .ref (ad v)), (2, .int x2), (3, .int x3)]) hx hb dX0_tryOrders_165 hl (k := 0) rfl (mi_add rfl rfl) (by decide) rfl (fun ls hl => ?_)
            refine lv_goto (tgt := 91) hx hb dX0_tryOrders_168 (by decide) ?_
            exact ih91  (c + 1) (mup τ 78 6 (nI 1)) (by omega) (by rw [fold_step, dfG_neg1 c_5]; exact bR_w78 hbt) (fun j hj => (mup_ne1 (by decide)).trans (hq j hj)) (kpT_78 hk) (by omega) _ _ hP hS ls (lv_sub hl [0, 1, 2, 3, 4, 5] rfl)
          · have c_5 : mask.testBit c = true := bi_t c_5
            have hbit := c_5
            refine lv_aload_n hx hb dX0_tryOrders_118 rfl (lv_at hl 2 rfl) ?_
            refine va_csr (W.runV (As := []) (rest := []) ⟨hx, hb, hml, hown, hts⟩ (mt_X0_off l D dA rr xs ad N hA (mup τ 78 6 (nI 1)) ru ((kpT_o (kpT_78 hk) (by decide)).trans hru) hru3) (cwV 0 hts (lw_V q455 q457 qs10 q45 q458) rfl rfl rfl (by decide +kernel) ⟨Nat.le_of_ble_eq_true rfl, Nat.le_of_ble_eq_true rfl⟩) ⟨mPre.blind, m_recv hE hP 0 (xl_n hA (by decide)) rfl rfl, mPre.at hE hP⟩ rfl rfl hl.1 rfl (lv_room (Nat.le_of_ble_eq_true rfl)) dX0_tryOrders_119 ⟨Nat.le_of_ble_eq_true rfl, Nat.le_of_ble_eq_true rfl⟩) (fun r_6 hr_6 => ?_)
            subst hr_6
            refine lv_aload hx hb dX0_tryOrders_122 (lv_at hl 1 rfl) ?_
            refine lv_iload_n hx hb dX0_tryOrders_124 rfl (lv_at hl 4 rfl) ?_
            refine lv_iconst (v := 1) hx hb dX0_tryOrders_125 (by decide) ?_
            refine lv_iload hx hb dX0_tryOrders_126 (lv_at hl 0 rfl) ?_
            refine lv_ishl hx hb dX0_tryOrders_128 ?_
            refine lv_iconst (v := 1) hx hb dX0_tryOrders_129 (by decide) ?_
            refine lv_isub hx hb dX0_tryOrders_130 ?_
            refine lv_iand hx hb dX0_tryOrders_131 ?_
            refine vp_callSi (W.runS (As := [.int (x2 &&& ((1 <<< ((nI c) &&& 31)) - 1))]) (rest := [.ref (ad 78), .ref (ad (14 + ru))]) ⟨hx, hb, hml, hown, hts⟩ (mt_J3_bitCount l (x2 &&& ((1 <<< ((nI c) &&& 31)) - 1))) (va_cwS 1 hts (lw_S q566 q567 q58 q568) rfl rfl rfl (by decide +kernel) ⟨Nat.le_of_ble_eq_true rfl, Nat.le_of_ble_eq_true rfl⟩) ⟨fun _ _ _ _ h => h, fun _ _ _ => ⟨rfl, trivial⟩⟩ rfl rfl hl.1 rfl (lv_room (Nat.le_of_ble_eq_true rfl)) dX0_tryOrders_132 ⟨Nat.le_of_ble_eq_true rfl, Nat.le_of_ble_eq_true rfl⟩) (fun r_7 hr_7 => ?_)
            subst hr_7
            refine lv_rwi (bc_nat (and_lo hx2 hm64 (by omega)) (Nat.lt_of_le_of_lt Nat.and_le_left hm64)) ?_
            refine mg_lets hA hx hb hml hown hts hE hP ru (by omega) 78 xw78 (nI (popc (mask &&& (2 ^ c - 1)))) hl.1 (Nat.le_of_ble_eq_true rfl) ⟨Nat.le_of_ble_eq_true rfl, Nat.le_of_ble_eq_true rfl⟩ ⟨Nat.le_of_ble_eq_true rfl, Nat.le_of_ble_eq_true rfl⟩ dX0_tryOrders_135 ?_
            refine lv_rwi (bi_c (lets_nat hru3 (popc_lt _) (mup_self _ _ _ _))) ?_
            refine lv_if_eq (tgt := 165) hx hb dX0_tryOrders_138 (by decide) (fun c_8 => ?_) (fun c_8 => ?_)
            · have c_8 : ¬ (letsN ru (popc (mask &&& (2 ^ c - 1))) 1 = true) := bi_f c_8
              refine lv_iinc (v := (nI (c + 1))) (lv' := [(5, .int (nI (c + 1))), (4, .ref (ad 78)), (0, .ref (ad 0)), (1, .ref (ad v)), (2, .int x2), (3, .int x3)]) hx hb dX0_tryOrders_165 hl (k := 0) rfl (mi_add rfl rfl) (by decide) rfl (fun ls hl => ?_)
              refine lv_goto (tgt := 91) hx hb dX0_tryOrders_168 (by decide) ?_
              exact ih91  (c + 1) (mup τ 78 6 (nI 1)) (by omega) (by rw [fold_step, dfG_neg2 c_8]; exact bR_w78 hbt) (fun j hj => (mup_ne1 (by decide)).trans (hq j hj)) (kpT_78 hk) (by omega) _ _ hP hS ls (lv_sub hl [0, 1, 2, 3, 4, 5] rfl)
            · have c_8 : letsN ru (popc (mask &&& (2 ^ c - 1))) 1 = true := bi_t c_8
              have hlet := c_8
              refine lv_aload_n hx hb dX0_tryOrders_141 rfl (lv_at hl 2 rfl) ?_
              refine mg_ref hx hb hts in_X0 hown hE hP 0 (xl_n hA (by decide)) rfl rfl 11 rfl (by decide) (hts _ q275) (fun _ h9 => h9) dX0_tryOrders_142 ?_
              refine lv_iload_n hx hb dX0_tryOrders_145 rfl (lv_at hl 5 rfl) ?_
              refine lv_iload hx hb dX0_tryOrders_146 (lv_at hl 0 rfl) ?_
              refine mg_ist (v := (nI c)) hx hb hE hD hP hS 20 (xl_n hA (by decide)) rfl dp (by omega) hx3 (by decide) dX0_tryOrders_148 (fun H locs hP hS => ?_)
              refine lv_aload_n hx hb dX0_tryOrders_149 rfl (lv_at hl 2 rfl) ?_
              refine lv_aload_n hx hb dX0_tryOrders_150 rfl (lv_at hl 3 rfl) ?_
              refine lv_iload_n hx hb dX0_tryOrders_151 rfl (lv_at hl 4 rfl) ?_
              refine lv_iconst (v := 1) hx hb dX0_tryOrders_152 (by decide) ?_
              refine lv_iload hx hb dX0_tryOrders_153 (lv_at hl 0 rfl) ?_
              refine lv_ishl hx hb dX0_tryOrders_155 ?_
              refine lv_iconst (v := (-1)) hx hb dX0_tryOrders_156 (by decide) ?_
              refine lv_ixor hx hb dX0_tryOrders_157 ?_
              refine lv_iand hx hb dX0_tryOrders_158 ?_
              refine lv_iload_n hx hb dX0_tryOrders_159 rfl (lv_at hl 5 rfl) ?_
              refine lv_iconst (v := 1) hx hb dX0_tryOrders_160 (by decide) ?_
              refine lv_iadd hx hb dX0_tryOrders_161 ?_
              refine va_callv (va_runV (As := [.ref (ad v), .int (x2 &&& ((1 <<< ((nI c) &&& 31)) ^^^ (-1))), .int (x3 + 1)]) (rest := []) ⟨hx, hb, hml, hown, hts⟩ (mt_X0_tryOrders_0 l D dA rr xs ad N hA (mup (mup τ 78 6 (nI 1)) 20 dp (nI c)) v hv hv75 A (tA hA0 (kpT_20 (kpT_78 hk)) hv hv75 hv78) n hn hn6 (x2 &&& ((1 <<< ((nI c) &&& 31)) ^^^ (-1))) (clr0 hx2 hm64 hpc (by omega) hbit) (x3 + 1) (dp + 1) (mi_add hx3 rfl) (pre ++ [c]) (pre_pushn hpl hpre hq (show dp + 1 = n by omega)) (hgood _ (dfs_mem1 (by omega) hbit hlet)) _ (bR_w hbt)) (cwV 3 hts (lw_V q553 q555 qs17 q45 q556) rfl rfl rfl (by decide +kernel) ⟨Nat.le_of_ble_eq_true rfl, Nat.le_of_ble_eq_true rfl⟩) ⟨mPre.blind, m_recv hE hP 0 (xl_n hA (by decide)) rfl rfl, mPre.at hE hP⟩ rfl rfl hl.1 rfl (lv_room (Nat.le_of_ble_eq_true rfl)) dX0_tryOrders_162 ⟨Nat.le_of_ble_eq_true rfl, Nat.le_of_ble_eq_true rfl⟩) hS (fun q _ h => h) (fun q h => h) (fun ur_9 tr_9 H locs ht h0 hr_9 hB h1 h2 hS => ?_)
              obtain ⟨hbr, hqr, hkr⟩ := hr_9
              have hP := mB.get ht hB
              refine lv_iinc (v := (nI (c + 1))) (lv' := [(5, .int (nI (c + 1))), (4, .ref (ad 78)), (0, .ref (ad 0)), (1, .ref (ad v)), (2, .int x2), (3, .int x3)]) hx hb dX0_tryOrders_165 hl (k := 0) rfl (mi_add rfl rfl) (by decide) rfl (fun ls hl => ?_)
              refine lv_goto (tgt := 91) hx hb dX0_tryOrders_168 (by decide) ?_
              exact ih91  (c + 1) ur_9 (by omega) (by rw [fold_step, dfG_pos hbit hlet]; exact hbr) (fun j hj => (hqr j (by omega)).trans ((mup_ne2 (by omega)).trans ((mup_ne1 (by decide)).trans (hq j hj)))) (kpT_tr (kpT_20 (kpT_78 hk)) hkr) (by omega) _ _ hP hS ls (lv_sub hl [0, 1, 2, 3, 4, 5] rfl)
    exact lp91 (n - 0 + 1) 0 σ (by omega) hB0 (fun j hj => rfl) (fun a b h1 h2 => rfl) (by omega) _ _ hP hS ls (lv_sub hl [0, 1, 2, 3, 4, 5] rfl)
  · have nc_1 : mask = 0 := mi_eq hx2 rfl (by omega) (by omega) c_1
    exact absurd nc_1 hm0
set_option maxHeartbeats 4000000 in
set_option maxRecDepth 100000 in
theorem mt_X0_tryOrders_2 (l : Launch) (D : va_G) (dA : Nat → ClassId) (rr : Nat → Option Nat) (xs : Nat → mSh) (ad : Nat → Nat) (N : Nat) (hA : xA ad N) (σ : mMem) (v : Nat) (hv : xw v) (hv75 : v ≠ 75) (A : AW) (hA0 : aR σ v A) (n : Nat) (hn : A.2.2.2.length = n) (hn6 : n ≤ 6) (hv78 : v ≠ 78) (ru : Nat) (hru : σ 10 0 = nI ru) (hru3 : ru < 3) (x2 : Int32) (mask : Nat) (hx2 : x2 = nI mask) (hm64 : mask < 64) (hpc : popc mask = 2) (x3 : Int32) (dp : Nat) (hx3 : x3 = nI dp) (pre : List Nat) (hpl : pre.length = dp) (hdp : dp + 2 = n) (hpre : ∀ j, j < dp → σ 20 j = nI (lf pre j)) (hgood : ∀ o, o ∈ dfsL ru n 2 mask pre → okO (lf o) n) (Zb : Int32 × Int32 × (Nat → Nat)) (hB0 : bR σ n Zb) : Met l yX0_tryOrders (ws_ yX0_tryOrders cX0_tryOrders 6 none) ({ frames := 6, cells := 0, slots := 0, locals := 181 }) (va_Pc [.ref (ad 0), .ref (ad v), .int x2, .int x3] (mPre D dA (shX rr xs) ad N σ)) (va_Qv (fun (u : mMem) => bR u n (List.foldl (stB A) Zb (dfsL ru n 2 mask pre)) ∧ (∀ j, j < dp → u 20 j = σ 20 j) ∧ kpT σ u) (mB D dA (shX rr xs) ad N) (mAd ad N)) 0 0 (mAd ad N) := by
  refine Met.ofW (cc := cX0_tryOrders) (maxL := 6) (ret := none) (by decide) rfl ?_
  intro pp ee ss mm args below meth cd s₁ B hml hv
  obtain ⟨rfl, hP, hE⟩ := hv
  have hx := B.exec
  have hb := B.bytes
  have hr := B.returns
  have hts := atoms_spec (ws := ws_ yX0_tryOrders cX0_tryOrders 6 none) B.pre
  have hts : ∀ w ∈ lw_all, w.before _ ss = true := fun w h => hts w (List.mem_cons_of_mem _ h)
  have hown : ss.vm.findClass RX0 = some mm.cls := findClass_of_methodNamed B.named
  have hlocks := B.notSynchronized
  have hD := hA.2.self
  have hS : va_S (mAd ad N) ss.heap ss.heap [] := va_S.rf
  have hNN := hA.1
  obtain ⟨hv1, hv2, hv3⟩ := id hv
  have hm0 : mask ≠ 0 := pc_ne hpc (by decide)
  have hl := lv_entry ([.ref (ad 0), .ref (ad v), .int x2, .int x3]) (n := 6) (Nat.le_of_ble_eq_true rfl)
  rw [lg_entry_eq]
  generalize (lg_sl ([.ref (ad 0), .ref (ad v), .int x2, .int x3]) ++ List.replicate (6 - (lg_sl ([.ref (ad 0), .ref (ad v), .int x2, .int x3])).length) Slot.unset).toArray = ls at hl ⊢
  have hl : lv_has ls 6 [(0, .ref (ad 0)), (1, .ref (ad v)), (2, .int x2), (3, .int x3)] := hl
  refine lv_iload_n hx hb dX0_tryOrders_0 rfl (lv_at hl 2 rfl) ?_
  refine lv_if_ne (tgt := 82) hx hb dX0_tryOrders_1 (by decide) (fun c_1 => ?_) (fun c_1 => ?_)
  · have nc_1 : mask ≠ 0 := mi_ne hx2 rfl (by omega) (by omega) c_1
    refine lv_aload_n hx hb dX0_tryOrders_82 rfl (lv_at hl 0 rfl) ?_
    refine mg_ref hx hb hts in_X0 hown hE hP 0 (xl_n hA (by decide)) rfl rfl 4 rfl (by decide) (hts _ q268) (fun _ h9 => h9) dX0_tryOrders_83 ?_
    refine lv_astore (lv' := [(4, .ref (ad 78)), (0, .ref (ad 0)), (1, .ref (ad v)), (2, .int x2), (3, .int x3)]) hx hb dX0_tryOrders_86 hl (by decide) rfl (fun ls hl => ?_)
    refine lv_iconst (v := 0) hx hb dX0_tryOrders_88 (by decide) ?_
    refine lv_istore (lv' := [(5, .int 0), (4, .ref (ad 78)), (0, .ref (ad 0)), (1, .ref (ad v)), (2, .int x2), (3, .int x3)]) hx hb dX0_tryOrders_89 hl (by decide) rfl (fun ls hl => ?_)
    have lp91 : ∀ (fu : Nat) (c : Nat) (τ : mMem) (_ : c ≤ n) (_ : bR τ n (List.foldl (stB A) Zb ((List.range c).flatMap (dfG ru n 1 mask pre)))) (_ : ∀ j, j < dp → τ 20 j = σ 20 j) (_ : kpT σ τ) (_ : n - c < fu) (H : Heap) (locs : List Loc) (_ : va_P D xCl (mW dA (shX rr xs) ad N τ) H) (_ : va_S (mAd ad N) ss.heap H locs) (ls : Array Slot) (_ : lv_has ls 6 [(5, .int (nI c)), (4, .ref (ad 78)), (0, .ref (ad 0)), (1, .ref (ad v)), (2, .int x2), (3, .int x3)]), W pp l ee (headSpec (ws_ yX0_tryOrders cX0_tryOrders 6 none) ({ frames := 6, cells := 0, slots := 0, locals := 181 })).room ss mm ([.ref (ad 0), .ref (ad v), .int x2, .int x3] : List Value).toArray below meth cd H locs 0 0 (MQ below (va_Qv (fun (u : mMem) => bR u n (List.foldl (stB A) Zb (dfsL ru n 2 mask pre)) ∧ (∀ j, j < dp → u 20 j = σ 20 j) ∧ kpT σ u) (mB D dA (shX rr xs) ad N) (mAd ad N)) ([.ref (ad 0), .ref (ad v), .int x2, .int x3] : List Value).toArray ss 0 0 (mAd ad N)) (F0 mm 91 ls []) := by
      intro fu
      induction fu with
      | zero => intro c τ hc hbt hq hk hfu; exact absurd hfu (Nat.not_lt_zero _)
      | succ fu ih91 =>
        intro c τ hc hbt hq hk hfu H locs hP hS ls hl
        refine lv_iload hx hb dX0_tryOrders_91 (lv_at hl 0 rfl) ?_
        refine lv_aload_n hx hb dX0_tryOrders_93 rfl (lv_at hl 3 rfl) ?_
        refine mg_getN hx hb hts in_X5 hown hE hP v (xl_o hA hv) (shX_o hv) rfl 6 rfl (by decide) q127 (fun _ h9 => h9) dX0_tryOrders_94 ?_
        refine lv_icmp_ge (tgt := 171) hx hb dX0_tryOrders_97 (by decide) (fun c_2 => ?_) (fun c_2 => ?_)
        · have nc_2 : n ≤ c := mi_le (kpT_v hk hA0 hn (by omega) (by omega)) rfl (by omega) (by omega) c_2
          exact W.vret hx hb hr (fun t ht hW => ⟨⟨_, rfl, ⟨by rw [show c = n by omega] at hbt; exact hbt, hq, hk⟩, mB.of ht hP⟩, hS.F ht⟩) hS.2.2 dX0_tryOrders_171
        · have nc_2 : c < n := mi_nle (kpT_v hk hA0 hn (by omega) (by omega)) rfl (by omega) (by omega) c_2
          refine lv_aload hx hb dX0_tryOrders_100 (lv_at hl 1 rfl) ?_
          refine lv_iload_n hx hb dX0_tryOrders_102 rfl (lv_at hl 4 rfl) ?_
          refine vp_callSi (W.runS (As := [.int x2]) (rest := [.ref (ad 78)]) ⟨hx, hb, hml, hown, hts⟩ (mt_J3_bitCount l x2) (va_cwS 1 hts (lw_S q566 q567 q58 q568) rfl rfl rfl (by decide +kernel) ⟨Nat.le_of_ble_eq_true rfl, Nat.le_of_ble_eq_true rfl⟩) ⟨fun _ _ _ _ h => h, fun _ _ _ => ⟨rfl, trivial⟩⟩ rfl rfl hl.1 rfl (lv_room (Nat.le_of_ble_eq_true rfl)) dX0_tryOrders_103 ⟨Nat.le_of_ble_eq_true rfl, Nat.le_of_ble_eq_true rfl⟩) (fun r_3 hr_3 => ?_)
          subst hr_3
          refine lv_rwi (bc_nat hx2 hm64) ?_
          refine lv_rwi (congrArg nI hpc) ?_
          refine mg_putN (v := (nI 2)) (ty := .int) hx hb hts in_X5 tyX5 tyX5_ok nmX5 hown hE hD hP hS 78 (xl_o hA xw78) (shX_o xw78) rfl 6 rfl (by decide) q127 (fun _ h9 => h9) rfl (by decide +kernel) rfl rfl dX0_tryOrders_106 (fun H locs hP hS => ?_)
          refine lv_iload_n hx hb dX0_tryOrders_109 rfl (lv_at hl 4 rfl) ?_
          refine lv_iload hx hb dX0_tryOrders_110 (lv_at hl 0 rfl) ?_
          refine vp_callSi (W.runS (As := [.int x2, .int (nI c)]) (rest := []) ⟨hx, hb, hml, hown, hts⟩ (mt_X0_has l x2 (nI c)) (va_cwS 2 hts (lw_S q572 q573 q45 q574) rfl rfl rfl (by decide +kernel) ⟨Nat.le_of_ble_eq_true rfl, Nat.le_of_ble_eq_true rfl⟩) ⟨fun _ _ _ _ h => h, fun _ _ _ => ⟨rfl, trivial⟩⟩ rfl rfl hl.1 rfl (lv_room (Nat.le_of_ble_eq_true rfl)) dX0_tryOrders_112 ⟨Nat.le_of_ble_eq_true rfl, Nat.le_of_ble_eq_true rfl⟩) (fun r_4 hr_4 => ?_)
          subst hr_4
          refine lv_rwi (bi_c (tb_of hx2 hm64 (by omega))) ?_
          refine lv_if_eq (tgt := 165) hx hb dX0_tryOrders_115 (by decide) (fun c_5 => ?_) (fun c_5 => ?_)
          · have c_5 : ¬ (mask.testBit c = true) := bi_f c_5
            refine lv_iinc (v := (nI (c + 1))) (lv' := [(5, .int (nI (c + 1))), (4, .ref (ad 78)), (0, .ref (ad 0)), (1, .ref (ad v)), (2, .int x2), (3, .int x3)]) hx hb dX0_tryOrders_165 hl (k := 0) rfl (mi_add rfl rfl) (by decide) rfl (fun ls hl => ?_)
            refine lv_goto (tgt := 91) hx hb dX0_tryOrders_168 (by decide) ?_
            exact ih91  (c + 1) (mup τ 78 6 (nI 2)) (by omega) (by rw [fold_step, dfG_neg1 c_5]; exact bR_w78 hbt) (fun j hj => (mup_ne1 (by decide)).trans (hq j hj)) (kpT_78 hk) (by omega) _ _ hP hS ls (lv_sub hl [0, 1, 2, 3, 4, 5] rfl)
          · have c_5 : mask.testBit c = true := bi_t c_5
            have hbit := c_5
            refine lv_aload_n hx hb dX0_tryOrders_118 rfl (lv_at hl 2 rfl) ?_
            refine va_csr (W.runV (As := []) (rest := []) ⟨hx, hb, hml, hown, hts⟩ (mt_X0_off l D dA rr xs ad N hA (mup τ 78 6 (nI 2)) ru ((kpT_o (kpT_78 hk) (by decide)).trans hru) hru3) (cwV 0 hts (lw_V q455 q457 qs10 q45 q458) rfl rfl rfl (by decide +kernel) ⟨Nat.le_of_ble_eq_true rfl, Nat.le_of_ble_eq_true rfl⟩) ⟨mPre.blind, m_recv hE hP 0 (xl_n hA (by decide)) rfl rfl, mPre.at hE hP⟩ rfl rfl hl.1 rfl (lv_room (Nat.le_of_ble_eq_true rfl)) dX0_tryOrders_119 ⟨Nat.le_of_ble_eq_true rfl, Nat.le_of_ble_eq_true rfl⟩) (fun r_6 hr_6 => ?_)
            subst hr_6
            refine lv_aload hx hb dX0_tryOrders_122 (lv_at hl 1 rfl) ?_
            refine lv_iload_n hx hb dX0_tryOrders_124 rfl (lv_at hl 4 rfl) ?_
            refine lv_iconst (v := 1) hx hb dX0_tryOrders_125 (by decide) ?_
            refine lv_iload hx hb dX0_tryOrders_126 (lv_at hl 0 rfl) ?_
            refine lv_ishl hx hb dX0_tryOrders_128 ?_
            refine lv_iconst (v := 1) hx hb dX0_tryOrders_129 (by decide) ?_
            refine lv_isub hx hb dX0_tryOrders_130 ?_
            refine lv_iand hx hb dX0_tryOrders_131 ?_
            refine vp_callSi (W.runS (As := [.int (x2 &&& ((1 <<< ((nI c) &&& 31)) - 1))]) (rest := [.ref (ad 78), .ref (ad (14 + ru))]) ⟨hx, hb, hml, hown, hts⟩ (mt_J3_bitCount l (x2 &&& ((1 <<< ((nI c) &&& 31)) - 1))) (va_cwS 1 hts (lw_S q566 q567 q58 q568) rfl rfl rfl (by decide +kernel) ⟨Nat.le_of_ble_eq_true rfl, Nat.le_of_ble_eq_true rfl⟩) ⟨fun _ _ _ _ h => h, fun _ _ _ => ⟨rfl, trivial⟩⟩ rfl rfl hl.1 rfl (lv_room (Nat.le_of_ble_eq_true rfl)) dX0_tryOrders_132 ⟨Nat.le_of_ble_eq_true rfl, Nat.le_of_ble_eq_true rfl⟩) (fun r_7 hr_7 => ?_)
            subst hr_7
            refine lv_rwi (bc_nat (and_lo hx2 hm64 (by omega)) (Nat.lt_of_le_of_lt Nat.and_le_left hm64)) ?_
            refine mg_lets hA hx hb hml hown hts hE hP ru (by omega) 78 xw78 (nI (popc (mask &&& (2 ^ c - 1)))) hl.1 (Nat.le_of_ble_eq_true rfl) ⟨Nat.le_of_ble_eq_true rfl, Nat.le_of_ble_eq_true rfl⟩ ⟨Nat.le_of_ble_eq_true rfl, Nat.le_of_ble_eq_true rfl⟩ dX0_tryOrders_135 ?_
            refine lv_rwi (bi_c (lets_nat hru3 (popc_lt _) (mup_self _ _ _ _))) ?_
            refine lv_if_eq (tgt := 165) hx hb dX0_tryOrders_138 (by decide) (fun c_8 => ?_) (fun c_8 => ?_)
            · have c_8 : ¬ (letsN ru (popc (mask &&& (2 ^ c - 1))) 2 = true) := bi_f c_8
              refine lv_iinc (v := (nI (c + 1))) (lv' := [(5, .int (nI (c + 1))), (4, .ref (ad 78)), (0, .ref (ad 0)), (1, .ref (ad v)), (2, .int x2), (3, .int x3)]) hx hb dX0_tryOrders_165 hl (k := 0) rfl (mi_add rfl rfl) (by decide) rfl (fun ls hl => ?_)
              refine lv_goto (tgt := 91) hx hb dX0_tryOrders_168 (by decide) ?_
              exact ih91  (c + 1) (mup τ 78 6 (nI 2)) (by omega) (by rw [fold_step, dfG_neg2 c_8]; exact bR_w78 hbt) (fun j hj => (mup_ne1 (by decide)).trans (hq j hj)) (kpT_78 hk) (by omega) _ _ hP hS ls (lv_sub hl [0, 1, 2, 3, 4, 5] rfl)
            · have c_8 : letsN ru (popc (mask &&& (2 ^ c - 1))) 2 = true := bi_t c_8
              have hlet := c_8
              refine lv_aload_n hx hb dX0_tryOrders_141 rfl (lv_at hl 2 rfl) ?_
              refine mg_ref hx hb hts in_X0 hown hE hP 0 (xl_n hA (by decide)) rfl rfl 11 rfl (by decide) (hts _ q275) (fun _ h9 => h9) dX0_tryOrders_142 ?_
              refine lv_iload_n hx hb dX0_tryOrders_145 rfl (lv_at hl 5 rfl) ?_
              refine lv_iload hx hb dX0_tryOrders_146 (lv_at hl 0 rfl) ?_
              refine mg_ist (v := (nI c)) hx hb hE hD hP hS 20 (xl_n hA (by decide)) rfl dp (by omega) hx3 (by decide) dX0_tryOrders_148 (fun H locs hP hS => ?_)
              refine lv_aload_n hx hb dX0_tryOrders_149 rfl (lv_at hl 2 rfl) ?_
              refine lv_aload_n hx hb dX0_tryOrders_150 rfl (lv_at hl 3 rfl) ?_
              refine lv_iload_n hx hb dX0_tryOrders_151 rfl (lv_at hl 4 rfl) ?_
              refine lv_iconst (v := 1) hx hb dX0_tryOrders_152 (by decide) ?_
              refine lv_iload hx hb dX0_tryOrders_153 (lv_at hl 0 rfl) ?_
              refine lv_ishl hx hb dX0_tryOrders_155 ?_
              refine lv_iconst (v := (-1)) hx hb dX0_tryOrders_156 (by decide) ?_
              refine lv_ixor hx hb dX0_tryOrders_157 ?_
              refine lv_iand hx hb dX0_tryOrders_158 ?_
              refine lv_iload_n hx hb dX0_tryOrders_159 rfl (lv_at hl 5 rfl) ?_
              refine lv_iconst (v := 1) hx hb dX0_tryOrders_160 (by decide) ?_
              refine lv_iadd hx hb dX0_tryOrders_161 ?_
              refine va_callv (va_runV (As := [.ref (ad v), .int (x2 &&& ((1 <<< ((nI c) &&& 31)) ^^^ (-1))), .int (x3 + 1)]) (rest := []) ⟨hx, hb, hml, hown, hts⟩ (mt_X0_tryOrders_1 l D dA rr xs ad N hA (mup (mup τ 78 6 (nI 2)) 20 dp (nI c)) v hv hv75 A (tA hA0 (kpT_20 (kpT_78 hk)) hv hv75 hv78) n hn hn6 hv78 ru ((kpT_o (kpT_20 (kpT_78 hk)) (by decide)).trans hru) hru3 (x2 &&& ((1 <<< ((nI c) &&& 31)) ^^^ (-1))) (clr mask c) (clr_ofb hx2 hm64 (by omega) hbit) (clr_lt hm64) (clr_pc hm64 (by omega) hpc hbit) (x3 + 1) (dp + 1) (mi_add hx3 rfl) (pre ++ [c]) (by simp [hpl]) (by omega) (pre_push hpl hpre hq (by omega)) (fun o ho => hgood o (dfs_mem (by omega) hbit hlet ho)) _ (bR_w hbt)) (cwV 3 hts (lw_V q553 q555 qs17 q45 q556) rfl rfl rfl (by decide +kernel) ⟨Nat.le_of_ble_eq_true rfl, Nat.le_of_ble_eq_true rfl⟩) ⟨mPre.blind, m_recv hE hP 0 (xl_n hA (by decide)) rfl rfl, mPre.at hE hP⟩ rfl rfl hl.1 rfl (lv_room (Nat.le_of_ble_eq_true rfl)) dX0_tryOrders_162 ⟨Nat.le_of_ble_eq_true rfl, Nat.le_of_ble_eq_true rfl⟩) hS (fun q _ h => h) (fun q h => h) (fun ur_9 tr_9 H locs ht h0 hr_9 hB h1 h2 hS => ?_)
              obtain ⟨hbr, hqr, hkr⟩ := hr_9
              have hP := mB.get ht hB
              refine lv_iinc (v := (nI (c + 1))) (lv' := [(5, .int (nI (c + 1))), (4, .ref (ad 78)), (0, .ref (ad 0)), (1, .ref (ad v)), (2, .int x2), (3, .int x3)]) hx hb dX0_tryOrders_165 hl (k := 0) rfl (mi_add rfl rfl) (by decide) rfl (fun ls hl => ?_)
              refine lv_goto (tgt := 91) hx hb dX0_tryOrders_168 (by decide) ?_
              exact ih91  (c + 1) ur_9 (by omega) (by rw [fold_step, dfG_pos hbit hlet]; exact hbr) (fun j hj => (hqr j (by omega)).trans ((mup_ne2 (by omega)).trans ((mup_ne1 (by decide)).trans (hq j hj)))) (kpT_tr (kpT_20 (kpT_78 hk)) hkr) (by omega) _ _ hP hS ls (lv_sub hl [0, 1, 2, 3, 4, 5] rfl)
    exact lp91 (n - 0 + 1) 0 σ (by omega) hB0 (fun j hj => rfl) (fun a b h1 h2 => rfl) (by omega) _ _ hP hS ls (lv_sub hl [0, 1, 2, 3, 4, 5] rfl)
  · have nc_1 : mask = 0 := mi_eq hx2 rfl (by omega) (by omega) c_1
    exact absurd nc_1 hm0
set_option maxHeartbeats 4000000 in
set_option maxRecDepth 100000 in
theorem mt_X0_tryOrders_3 (l : Launch) (D : va_G) (dA : Nat → ClassId) (rr : Nat → Option Nat) (xs : Nat → mSh) (ad : Nat → Nat) (N : Nat) (hA : xA ad N) (σ : mMem) (v : Nat) (hv : xw v) (hv75 : v ≠ 75) (A : AW) (hA0 : aR σ v A) (n : Nat) (hn : A.2.2.2.length = n) (hn6 : n ≤ 6) (hv78 : v ≠ 78) (ru : Nat) (hru : σ 10 0 = nI ru) (hru3 : ru < 3) (x2 : Int32) (mask : Nat) (hx2 : x2 = nI mask) (hm64 : mask < 64) (hpc : popc mask = 3) (x3 : Int32) (dp : Nat) (hx3 : x3 = nI dp) (pre : List Nat) (hpl : pre.length = dp) (hdp : dp + 3 = n) (hpre : ∀ j, j < dp → σ 20 j = nI (lf pre j)) (hgood : ∀ o, o ∈ dfsL ru n 3 mask pre → okO (lf o) n) (Zb : Int32 × Int32 × (Nat → Nat)) (hB0 : bR σ n Zb) : Met l yX0_tryOrders (ws_ yX0_tryOrders cX0_tryOrders 6 none) ({ frames := 7, cells := 0, slots := 0, locals := 206 }) (va_Pc [.ref (ad 0), .ref (ad v), .int x2, .int x3] (mPre D dA (shX rr xs) ad N σ)) (va_Qv (fun (u : mMem) => bR u n (List.foldl (stB A) Zb (dfsL ru n 3 mask pre)) ∧ (∀ j, j < dp → u 20 j = σ 20 j) ∧ kpT σ u) (mB D dA (shX rr xs) ad N) (mAd ad N)) 0 0 (mAd ad N) := by
  refine Met.ofW (cc := cX0_tryOrders) (maxL := 6) (ret := none) (by decide) rfl ?_
  intro pp ee ss mm args below meth cd s₁ B hml hv
  obtain ⟨rfl, hP, hE⟩ := hv
  have hx := B.exec
  have hb := B.bytes
  have hr := B.returns
  have hts := atoms_spec (ws := ws_ yX0_tryOrders cX0_tryOrders 6 none) B.pre
  have hts : ∀ w ∈ lw_all, w.before _ ss = true := fun w h => hts w (List.mem_cons_of_mem _ h)
  have hown : ss.vm.findClass RX0 = some mm.cls := findClass_of_methodNamed B.named
  have hlocks := B.notSynchronized
  have hD := hA.2.self
  have hS : va_S (mAd ad N) ss.heap ss.heap [] := va_S.rf
  have hNN := hA.1
  obtain ⟨hv1, hv2, hv3⟩ := id hv
  have hm0 : mask ≠ 0 := pc_ne hpc (by decide)
  have hl := lv_entry ([.ref (ad 0), .ref (ad v), .int x2, .int x3]) (n := 6) (Nat.le_of_ble_eq_true rfl)
  rw [lg_entry_eq]
  generalize (lg_sl ([.ref (ad 0), .ref (ad v), .int x2, .int x3]) ++ List.replicate (6 - (lg_sl ([.ref (ad 0), .ref (ad v), .int x2, .int x3])).length) Slot.unset).toArray = ls at hl ⊢
  have hl : lv_has ls 6 [(0, .ref (ad 0)), (1, .ref (ad v)), (2, .int x2), (3, .int x3)] := hl
  refine lv_iload_n hx hb dX0_tryOrders_0 rfl (lv_at hl 2 rfl) ?_
  refine lv_if_ne (tgt := 82) hx hb dX0_tryOrders_1 (by decide) (fun c_1 => ?_) (fun c_1 => ?_)
  · have nc_1 : mask ≠ 0 := mi_ne hx2 rfl (by omega) (by omega) c_1
    refine lv_aload_n hx hb dX0_tryOrders_82 rfl (lv_at hl 0 rfl) ?_
    refine mg_ref hx hb hts in_X0 hown hE hP 0 (xl_n hA (by decide)) rfl rfl 4 rfl (by decide) (hts _ q268) (fun _ h9 => h9) dX0_tryOrders_83 ?_
    refine lv_astore (lv' := [(4, .ref (ad 78)), (0, .ref (ad 0)), (1, .ref (ad v)), (2, .int x2), (3, .int x3)]) hx hb dX0_tryOrders_86 hl (by decide) rfl (fun ls hl => ?_)
    refine lv_iconst (v := 0) hx hb dX0_tryOrders_88 (by decide) ?_
    refine lv_istore (lv' := [(5, .int 0), (4, .ref (ad 78)), (0, .ref (ad 0)), (1, .ref (ad v)), (2, .int x2), (3, .int x3)]) hx hb dX0_tryOrders_89 hl (by decide) rfl (fun ls hl => ?_)
    have lp91 : ∀ (fu : Nat) (c : Nat) (τ : mMem) (_ : c ≤ n) (_ : bR τ n (List.foldl (stB A) Zb ((List.range c).flatMap (dfG ru n 2 mask pre)))) (_ : ∀ j, j < dp → τ 20 j = σ 20 j) (_ : kpT σ τ) (_ : n - c < fu) (H : Heap) (locs : List Loc) (_ : va_P D xCl (mW dA (shX rr xs) ad N τ) H) (_ : va_S (mAd ad N) ss.heap H locs) (ls : Array Slot) (_ : lv_has ls 6 [(5, .int (nI c)), (4, .ref (ad 78)), (0, .ref (ad 0)), (1, .ref (ad v)), (2, .int x2), (3, .int x3)]), W pp l ee (headSpec (ws_ yX0_tryOrders cX0_tryOrders 6 none) ({ frames := 7, cells := 0, slots := 0, locals := 206 })).room ss mm ([.ref (ad 0), .ref (ad v), .int x2, .int x3] : List Value).toArray below meth cd H locs 0 0 (MQ below (va_Qv (fun (u : mMem) => bR u n (List.foldl (stB A) Zb (dfsL ru n 3 mask pre)) ∧ (∀ j, j < dp → u 20 j = σ 20 j) ∧ kpT σ u) (mB D dA (shX rr xs) ad N) (mAd ad N)) ([.ref (ad 0), .ref (ad v), .int x2, .int x3] : List Value).toArray ss 0 0 (mAd ad N)) (F0 mm 91 ls []) := by
      intro fu
      induction fu with
      | zero => intro c τ hc hbt hq hk hfu; exact absurd hfu (Nat.not_lt_zero _)
      | succ fu ih91 =>
        intro c τ hc hbt hq hk hfu H locs hP hS ls hl
        refine lv_iload hx hb dX0_tryOrders_91 (lv_at hl 0 rfl) ?_
        refine lv_aload_n hx hb dX0_tryOrders_93 rfl (lv_at hl 3 rfl) ?_
        refine mg_getN hx hb hts in_X5 hown hE hP v (xl_o hA hv) (shX_o hv) rfl 6 rfl (by decide) q127 (fun _ h9 => h9) dX0_tryOrders_94 ?_
        refine lv_icmp_ge (tgt := 171) hx hb dX0_tryOrders_97 (by decide) (fun c_2 => ?_) (fun c_2 => ?_)
        · have nc_2 : n ≤ c := mi_le (kpT_v hk hA0 hn (by omega) (by omega)) rfl (by omega) (by omega) c_2
          exact W.vret hx hb hr (fun t ht hW => ⟨⟨_, rfl, ⟨by rw [show c = n by omega] at hbt; exact hbt, hq, hk⟩, mB.of ht hP⟩, hS.F ht⟩) hS.2.2 dX0_tryOrders_171
        · have nc_2 : c < n := mi_nle (kpT_v hk hA0 hn (by omega) (by omega)) rfl (by omega) (by omega) c_2
          refine lv_aload hx hb dX0_tryOrders_100 (lv_at hl 1 rfl) ?_
          refine lv_iload_n hx hb dX0_tryOrders_102 rfl (lv_at hl 4 rfl) ?_
          refine vp_callSi (W.runS (As := [.int x2]) (rest := [.ref (ad 78)]) ⟨hx, hb, hml, hown, hts⟩ (mt_J3_bitCount l x2) (va_cwS 1 hts (lw_S q566 q567 q58 q568) rfl rfl rfl (by decide +kernel) ⟨Nat.le_of_ble_eq_true rfl, Nat.le_of_ble_eq_true rfl⟩) ⟨fun _ _ _ _ h => h, fun _ _ _ => ⟨rfl, trivial⟩⟩ rfl rfl hl.1 rfl (lv_room (Nat.le_of_ble_eq_true rfl)) dX0_tryOrders_103 ⟨Nat.le_of_ble_eq_true rfl, Nat.le_of_ble_eq_true rfl⟩) (fun r_3 hr_3 => ?_)
          subst hr_3
          refine lv_rwi (bc_nat hx2 hm64) ?_
          refine lv_rwi (congrArg nI hpc) ?_
          refine mg_putN (v := (nI 3)) (ty := .int) hx hb hts in_X5 tyX5 tyX5_ok nmX5 hown hE hD hP hS 78 (xl_o hA xw78) (shX_o xw78) rfl 6 rfl (by decide) q127 (fun _ h9 => h9) rfl (by decide +kernel) rfl rfl dX0_tryOrders_106 (fun H locs hP hS => ?_)
          refine lv_iload_n hx hb dX0_tryOrders_109 rfl (lv_at hl 4 rfl) ?_
          refine lv_iload hx hb dX0_tryOrders_110 (lv_at hl 0 rfl) ?_
          refine vp_callSi (W.runS (As := [.int x2, .int (nI c)]) (rest := []) ⟨hx, hb, hml, hown, hts⟩ (mt_X0_has l x2 (nI c)) (va_cwS 2 hts (lw_S q572 q573 q45 q574) rfl rfl rfl (by decide +kernel) ⟨Nat.le_of_ble_eq_true rfl, Nat.le_of_ble_eq_true rfl⟩) ⟨fun _ _ _ _ h => h, fun _ _ _ => ⟨rfl, trivial⟩⟩ rfl rfl hl.1 rfl (lv_room (Nat.le_of_ble_eq_true rfl)) dX0_tryOrders_112 ⟨Nat.le_of_ble_eq_true rfl, Nat.le_of_ble_eq_true rfl⟩) (fun r_4 hr_4 => ?_)
          subst hr_4
          refine lv_rwi (bi_c (tb_of hx2 hm64 (by omega))) ?_
          refine lv_if_eq (tgt := 165) hx hb dX0_tryOrders_115 (by decide) (fun c_5 => ?_) (fun c_5 => ?_)
          · have c_5 : ¬ (mask.testBit c = true) := bi_f c_5
            refine lv_iinc (v := (nI (c + 1))) (lv' := [(5, .int (nI (c + 1))), (4, .ref (ad 78)), (0, .ref (ad 0)), (1, .ref (ad v)), (2, .int x2), (3, .int x3)]) hx hb dX0_tryOrders_165 hl (k := 0) rfl (mi_add rfl rfl) (by decide) rfl (fun ls hl => ?_)
            refine lv_goto (tgt := 91) hx hb dX0_tryOrders_168 (by decide) ?_
            exact ih91  (c + 1) (mup τ 78 6 (nI 3)) (by omega) (by rw [fold_step, dfG_neg1 c_5]; exact bR_w78 hbt) (fun j hj => (mup_ne1 (by decide)).trans (hq j hj)) (kpT_78 hk) (by omega) _ _ hP hS ls (lv_sub hl [0, 1, 2, 3, 4, 5] rfl)
          · have c_5 : mask.testBit c = true := bi_t c_5
            have hbit := c_5
            refine lv_aload_n hx hb dX0_tryOrders_118 rfl (lv_at hl 2 rfl) ?_
            refine va_csr (W.runV (As := []) (rest := []) ⟨hx, hb, hml, hown, hts⟩ (mt_X0_off l D dA rr xs ad N hA (mup τ 78 6 (nI 3)) ru ((kpT_o (kpT_78 hk) (by decide)).trans hru) hru3) (cwV 0 hts (lw_V q455 q457 qs10 q45 q458) rfl rfl rfl (by decide +kernel) ⟨Nat.le_of_ble_eq_true rfl, Nat.le_of_ble_eq_true rfl⟩) ⟨mPre.blind, m_recv hE hP 0 (xl_n hA (by decide)) rfl rfl, mPre.at hE hP⟩ rfl rfl hl.1 rfl (lv_room (Nat.le_of_ble_eq_true rfl)) dX0_tryOrders_119 ⟨Nat.le_of_ble_eq_true rfl, Nat.le_of_ble_eq_true rfl⟩) (fun r_6 hr_6 => ?_)
            subst hr_6
            refine lv_aload hx hb dX0_tryOrders_122 (lv_at hl 1 rfl) ?_
            refine lv_iload_n hx hb dX0_tryOrders_124 rfl (lv_at hl 4 rfl) ?_
            refine lv_iconst (v := 1) hx hb dX0_tryOrders_125 (by decide) ?_
            refine lv_iload hx hb dX0_tryOrders_126 (lv_at hl 0 rfl) ?_
            refine lv_ishl hx hb dX0_tryOrders_128 ?_
            refine lv_iconst (v := 1) hx hb dX0_tryOrders_129 (by decide) ?_
            refine lv_isub hx hb dX0_tryOrders_130 ?_
            refine lv_iand hx hb dX0_tryOrders_131 ?_
            refine vp_callSi (W.runS (As := [.int (x2 &&& ((1 <<< ((nI c) &&& 31)) - 1))]) (rest := [.ref (ad 78), .ref (ad (14 + ru))]) ⟨hx, hb, hml, hown, hts⟩ (mt_J3_bitCount l (x2 &&& ((1 <<< ((nI c) &&& 31)) - 1))) (va_cwS 1 hts (lw_S q566 q567 q58 q568) rfl rfl rfl (by decide +kernel) ⟨Nat.le_of_ble_eq_true rfl, Nat.le_of_ble_eq_true rfl⟩) ⟨fun _ _ _ _ h => h, fun _ _ _ => ⟨rfl, trivial⟩⟩ rfl rfl hl.1 rfl (lv_room (Nat.le_of_ble_eq_true rfl)) dX0_tryOrders_132 ⟨Nat.le_of_ble_eq_true rfl, Nat.le_of_ble_eq_true rfl⟩) (fun r_7 hr_7 => ?_)
            subst hr_7
            refine lv_rwi (bc_nat (and_lo hx2 hm64 (by omega)) (Nat.lt_of_le_of_lt Nat.and_le_left hm64)) ?_
            refine mg_lets hA hx hb hml hown hts hE hP ru (by omega) 78 xw78 (nI (popc (mask &&& (2 ^ c - 1)))) hl.1 (Nat.le_of_ble_eq_true rfl) ⟨Nat.le_of_ble_eq_true rfl, Nat.le_of_ble_eq_true rfl⟩ ⟨Nat.le_of_ble_eq_true rfl, Nat.le_of_ble_eq_true rfl⟩ dX0_tryOrders_135 ?_
            refine lv_rwi (bi_c (lets_nat hru3 (popc_lt _) (mup_self _ _ _ _))) ?_
            refine lv_if_eq (tgt := 165) hx hb dX0_tryOrders_138 (by decide) (fun c_8 => ?_) (fun c_8 => ?_)
            · have c_8 : ¬ (letsN ru (popc (mask &&& (2 ^ c - 1))) 3 = true) := bi_f c_8
              refine lv_iinc (v := (nI (c + 1))) (lv' := [(5, .int (nI (c + 1))), (4, .ref (ad 78)), (0, .ref (ad 0)), (1, .ref (ad v)), (2, .int x2), (3, .int x3)]) hx hb dX0_tryOrders_165 hl (k := 0) rfl (mi_add rfl rfl) (by decide) rfl (fun ls hl => ?_)
              refine lv_goto (tgt := 91) hx hb dX0_tryOrders_168 (by decide) ?_
              exact ih91  (c + 1) (mup τ 78 6 (nI 3)) (by omega) (by rw [fold_step, dfG_neg2 c_8]; exact bR_w78 hbt) (fun j hj => (mup_ne1 (by decide)).trans (hq j hj)) (kpT_78 hk) (by omega) _ _ hP hS ls (lv_sub hl [0, 1, 2, 3, 4, 5] rfl)
            · have c_8 : letsN ru (popc (mask &&& (2 ^ c - 1))) 3 = true := bi_t c_8
              have hlet := c_8
              refine lv_aload_n hx hb dX0_tryOrders_141 rfl (lv_at hl 2 rfl) ?_
              refine mg_ref hx hb hts in_X0 hown hE hP 0 (xl_n hA (by decide)) rfl rfl 11 rfl (by decide) (hts _ q275) (fun _ h9 => h9) dX0_tryOrders_142 ?_
              refine lv_iload_n hx hb dX0_tryOrders_145 rfl (lv_at hl 5 rfl) ?_
              refine lv_iload hx hb dX0_tryOrders_146 (lv_at hl 0 rfl) ?_
              refine mg_ist (v := (nI c)) hx hb hE hD hP hS 20 (xl_n hA (by decide)) rfl dp (by omega) hx3 (by decide) dX0_tryOrders_148 (fun H locs hP hS => ?_)
              refine lv_aload_n hx hb dX0_tryOrders_149 rfl (lv_at hl 2 rfl) ?_
              refine lv_aload_n hx hb dX0_tryOrders_150 rfl (lv_at hl 3 rfl) ?_
              refine lv_iload_n hx hb dX0_tryOrders_151 rfl (lv_at hl 4 rfl) ?_
              refine lv_iconst (v := 1) hx hb dX0_tryOrders_152 (by decide) ?_
              refine lv_iload hx hb dX0_tryOrders_153 (lv_at hl 0 rfl) ?_
              refine lv_ishl hx hb dX0_tryOrders_155 ?_
              refine lv_iconst (v := (-1)) hx hb dX0_tryOrders_156 (by decide) ?_
              refine lv_ixor hx hb dX0_tryOrders_157 ?_
              refine lv_iand hx hb dX0_tryOrders_158 ?_
              refine lv_iload_n hx hb dX0_tryOrders_159 rfl (lv_at hl 5 rfl) ?_
              refine lv_iconst (v := 1) hx hb dX0_tryOrders_160 (by decide) ?_
              refine lv_iadd hx hb dX0_tryOrders_161 ?_
              refine va_callv (va_runV (As := [.ref (ad v), .int (x2 &&& ((1 <<< ((nI c) &&& 31)) ^^^ (-1))), .int (x3 + 1)]) (rest := []) ⟨hx, hb, hml, hown, hts⟩ (mt_X0_tryOrders_2 l D dA rr xs ad N hA (mup (mup τ 78 6 (nI 3)) 20 dp (nI c)) v hv hv75 A (tA hA0 (kpT_20 (kpT_78 hk)) hv hv75 hv78) n hn hn6 hv78 ru ((kpT_o (kpT_20 (kpT_78 hk)) (by decide)).trans hru) hru3 (x2 &&& ((1 <<< ((nI c) &&& 31)) ^^^ (-1))) (clr mask c) (clr_ofb hx2 hm64 (by omega) hbit) (clr_lt hm64) (clr_pc hm64 (by omega) hpc hbit) (x3 + 1) (dp + 1) (mi_add hx3 rfl) (pre ++ [c]) (by simp [hpl]) (by omega) (pre_push hpl hpre hq (by omega)) (fun o ho => hgood o (dfs_mem (by omega) hbit hlet ho)) _ (bR_w hbt)) (cwV 3 hts (lw_V q553 q555 qs17 q45 q556) rfl rfl rfl (by decide +kernel) ⟨Nat.le_of_ble_eq_true rfl, Nat.le_of_ble_eq_true rfl⟩) ⟨mPre.blind, m_recv hE hP 0 (xl_n hA (by decide)) rfl rfl, mPre.at hE hP⟩ rfl rfl hl.1 rfl (lv_room (Nat.le_of_ble_eq_true rfl)) dX0_tryOrders_162 ⟨Nat.le_of_ble_eq_true rfl, Nat.le_of_ble_eq_true rfl⟩) hS (fun q _ h => h) (fun q h => h) (fun ur_9 tr_9 H locs ht h0 hr_9 hB h1 h2 hS => ?_)
              obtain ⟨hbr, hqr, hkr⟩ := hr_9
              have hP := mB.get ht hB
              refine lv_iinc (v := (nI (c + 1))) (lv' := [(5, .int (nI (c + 1))), (4, .ref (ad 78)), (0, .ref (ad 0)), (1, .ref (ad v)), (2, .int x2), (3, .int x3)]) hx hb dX0_tryOrders_165 hl (k := 0) rfl (mi_add rfl rfl) (by decide) rfl (fun ls hl => ?_)
              refine lv_goto (tgt := 91) hx hb dX0_tryOrders_168 (by decide) ?_
              exact ih91  (c + 1) ur_9 (by omega) (by rw [fold_step, dfG_pos hbit hlet]; exact hbr) (fun j hj => (hqr j (by omega)).trans ((mup_ne2 (by omega)).trans ((mup_ne1 (by decide)).trans (hq j hj)))) (kpT_tr (kpT_20 (kpT_78 hk)) hkr) (by omega) _ _ hP hS ls (lv_sub hl [0, 1, 2, 3, 4, 5] rfl)
    exact lp91 (n - 0 + 1) 0 σ (by omega) hB0 (fun j hj => rfl) (fun a b h1 h2 => rfl) (by omega) _ _ hP hS ls (lv_sub hl [0, 1, 2, 3, 4, 5] rfl)
  · have nc_1 : mask = 0 := mi_eq hx2 rfl (by omega) (by omega) c_1
    exact absurd nc_1 hm0
set_option maxHeartbeats 4000000 in
set_option maxRecDepth 100000 in
theorem mt_X0_tryOrders_4 (l : Launch) (D : va_G) (dA : Nat → ClassId) (rr : Nat → Option Nat) (xs : Nat → mSh) (ad : Nat → Nat) (N : Nat) (hA : xA ad N) (σ : mMem) (v : Nat) (hv : xw v) (hv75 : v ≠ 75) (A : AW) (hA0 : aR σ v A) (n : Nat) (hn : A.2.2.2.length = n) (hn6 : n ≤ 6) (hv78 : v ≠ 78) (ru : Nat) (hru : σ 10 0 = nI ru) (hru3 : ru < 3) (x2 : Int32) (mask : Nat) (hx2 : x2 = nI mask) (hm64 : mask < 64) (hpc : popc mask = 4) (x3 : Int32) (dp : Nat) (hx3 : x3 = nI dp) (pre : List Nat) (hpl : pre.length = dp) (hdp : dp + 4 = n) (hpre : ∀ j, j < dp → σ 20 j = nI (lf pre j)) (hgood : ∀ o, o ∈ dfsL ru n 4 mask pre → okO (lf o) n) (Zb : Int32 × Int32 × (Nat → Nat)) (hB0 : bR σ n Zb) : Met l yX0_tryOrders (ws_ yX0_tryOrders cX0_tryOrders 6 none) ({ frames := 8, cells := 0, slots := 0, locals := 231 }) (va_Pc [.ref (ad 0), .ref (ad v), .int x2, .int x3] (mPre D dA (shX rr xs) ad N σ)) (va_Qv (fun (u : mMem) => bR u n (List.foldl (stB A) Zb (dfsL ru n 4 mask pre)) ∧ (∀ j, j < dp → u 20 j = σ 20 j) ∧ kpT σ u) (mB D dA (shX rr xs) ad N) (mAd ad N)) 0 0 (mAd ad N) := by
  refine Met.ofW (cc := cX0_tryOrders) (maxL := 6) (ret := none) (by decide) rfl ?_
  intro pp ee ss mm args below meth cd s₁ B hml hv
  obtain ⟨rfl, hP, hE⟩ := hv
  have hx := B.exec
  have hb := B.bytes
  have hr := B.returns
  have hts := atoms_spec (ws := ws_ yX0_tryOrders cX0_tryOrders 6 none) B.pre
  have hts : ∀ w ∈ lw_all, w.before _ ss = true := fun w h => hts w (List.mem_cons_of_mem _ h)
  have hown : ss.vm.findClass RX0 = some mm.cls := findClass_of_methodNamed B.named
  have hlocks := B.notSynchronized
  have hD := hA.2.self
  have hS : va_S (mAd ad N) ss.heap ss.heap [] := va_S.rf
  have hNN := hA.1
  obtain ⟨hv1, hv2, hv3⟩ := id hv
  have hm0 : mask ≠ 0 := pc_ne hpc (by decide)
  have hl := lv_entry ([.ref (ad 0), .ref (ad v), .int x2, .int x3]) (n := 6) (Nat.le_of_ble_eq_true rfl)
  rw [lg_entry_eq]
  generalize (lg_sl ([.ref (ad 0), .ref (ad v), .int x2, .int x3]) ++ List.replicate (6 - (lg_sl ([.ref (ad 0), .ref (ad v), .int x2, .int x3])).length) Slot.unset).toArray = ls at hl ⊢
  have hl : lv_has ls 6 [(0, .ref (ad 0)), (1, .ref (ad v)), (2, .int x2), (3, .int x3)] := hl
  refine lv_iload_n hx hb dX0_tryOrders_0 rfl (lv_at hl 2 rfl) ?_
  refine lv_if_ne (tgt := 82) hx hb dX0_tryOrders_1 (by decide) (fun c_1 => ?_) (fun c_1 => ?_)
  · have nc_1 : mask ≠ 0 := mi_ne hx2 rfl (by omega) (by omega) c_1
    refine lv_aload_n hx hb dX0_tryOrders_82 rfl (lv_at hl 0 rfl) ?_
    refine mg_ref hx hb hts in_X0 hown hE hP 0 (xl_n hA (by decide)) rfl rfl 4 rfl (by decide) (hts _ q268) (fun _ h9 => h9) dX0_tryOrders_83 ?_
    refine lv_astore (lv' := [(4, .ref (ad 78)), (0, .ref (ad 0)), (1, .ref (ad v)), (2, .int x2), (3, .int x3)]) hx hb dX0_tryOrders_86 hl (by decide) rfl (fun ls hl => ?_)
    refine lv_iconst (v := 0) hx hb dX0_tryOrders_88 (by decide) ?_
    refine lv_istore (lv' := [(5, .int 0), (4, .ref (ad 78)), (0, .ref (ad 0)), (1, .ref (ad v)), (2, .int x2), (3, .int x3)]) hx hb dX0_tryOrders_89 hl (by decide) rfl (fun ls hl => ?_)
    have lp91 : ∀ (fu : Nat) (c : Nat) (τ : mMem) (_ : c ≤ n) (_ : bR τ n (List.foldl (stB A) Zb ((List.range c).flatMap (dfG ru n 3 mask pre)))) (_ : ∀ j, j < dp → τ 20 j = σ 20 j) (_ : kpT σ τ) (_ : n - c < fu) (H : Heap) (locs : List Loc) (_ : va_P D xCl (mW dA (shX rr xs) ad N τ) H) (_ : va_S (mAd ad N) ss.heap H locs) (ls : Array Slot) (_ : lv_has ls 6 [(5, .int (nI c)), (4, .ref (ad 78)), (0, .ref (ad 0)), (1, .ref (ad v)), (2, .int x2), (3, .int x3)]), W pp l ee (headSpec (ws_ yX0_tryOrders cX0_tryOrders 6 none) ({ frames := 8, cells := 0, slots := 0, locals := 231 })).room ss mm ([.ref (ad 0), .ref (ad v), .int x2, .int x3] : List Value).toArray below meth cd H locs 0 0 (MQ below (va_Qv (fun (u : mMem) => bR u n (List.foldl (stB A) Zb (dfsL ru n 4 mask pre)) ∧ (∀ j, j < dp → u 20 j = σ 20 j) ∧ kpT σ u) (mB D dA (shX rr xs) ad N) (mAd ad N)) ([.ref (ad 0), .ref (ad v), .int x2, .int x3] : List Value).toArray ss 0 0 (mAd ad N)) (F0 mm 91 ls []) := by
      intro fu
      induction fu with
      | zero => intro c τ hc hbt hq hk hfu; exact absurd hfu (Nat.not_lt_zero _)
      | succ fu ih91 =>
        intro c τ hc hbt hq hk hfu H locs hP hS ls hl
        refine lv_iload hx hb dX0_tryOrders_91 (lv_at hl 0 rfl) ?_
        refine lv_aload_n hx hb dX0_tryOrders_93 rfl (lv_at hl 3 rfl) ?_
        refine mg_getN hx hb hts in_X5 hown hE hP v (xl_o hA hv) (shX_o hv) rfl 6 rfl (by decide) q127 (fun _ h9 => h9) dX0_tryOrders_94 ?_
        refine lv_icmp_ge (tgt := 171) hx hb dX0_tryOrders_97 (by decide) (fun c_2 => ?_) (fun c_2 => ?_)
        · have nc_2 : n ≤ c := mi_le (kpT_v hk hA0 hn (by omega) (by omega)) rfl (by omega) (by omega) c_2
          exact W.vret hx hb hr (fun t ht hW => ⟨⟨_, rfl, ⟨by rw [show c = n by omega] at hbt; exact hbt, hq, hk⟩, mB.of ht hP⟩, hS.F ht⟩) hS.2.2 dX0_tryOrders_171
        · have nc_2 : c < n := mi_nle (kpT_v hk hA0 hn (by omega) (by omega)) rfl (by omega) (by omega) c_2
          refine lv_aload hx hb dX0_tryOrders_100 (lv_at hl 1 rfl) ?_
          refine lv_iload_n hx hb dX0_tryOrders_102 rfl (lv_at hl 4 rfl) ?_
          refine vp_callSi (W.runS (As := [.int x2]) (rest := [.ref (ad 78)]) ⟨hx, hb, hml, hown, hts⟩ (mt_J3_bitCount l x2) (va_cwS 1 hts (lw_S q566 q567 q58 q568) rfl rfl rfl (by decide +kernel) ⟨Nat.le_of_ble_eq_true rfl, Nat.le_of_ble_eq_true rfl⟩) ⟨fun _ _ _ _ h => h, fun _ _ _ => ⟨rfl, trivial⟩⟩ rfl rfl hl.1 rfl (lv_room (Nat.le_of_ble_eq_true rfl)) dX0_tryOrders_103 ⟨Nat.le_of_ble_eq_true rfl, Nat.le_of_ble_eq_true rfl⟩) (fun r_3 hr_3 => ?_)
          subst hr_3
          refine lv_rwi (bc_nat hx2 hm64) ?_
          refine lv_rwi (congrArg nI hpc) ?_
          refine mg_putN (v := (nI 4)) (ty := .int) hx hb hts in_X5 tyX5 tyX5_ok nmX5 hown hE hD hP hS 78 (xl_o hA xw78) (shX_o xw78) rfl 6 rfl (by decide) q127 (fun _ h9 => h9) rfl (by decide +kernel) rfl rfl dX0_tryOrders_106 (fun H locs hP hS => ?_)
          refine lv_iload_n hx hb dX0_tryOrders_109 rfl (lv_at hl 4 rfl) ?_
          refine lv_iload hx hb dX0_tryOrders_110 (lv_at hl 0 rfl) ?_
          refine vp_callSi (W.runS (As := [.int x2, .int (nI c)]) (rest := []) ⟨hx, hb, hml, hown, hts⟩ (mt_X0_has l x2 (nI c)) (va_cwS 2 hts (lw_S q572 q573 q45 q574) rfl rfl rfl (by decide +kernel) ⟨Nat.le_of_ble_eq_true rfl, Nat.le_of_ble_eq_true rfl⟩) ⟨fun _ _ _ _ h => h, fun _ _ _ => ⟨rfl, trivial⟩⟩ rfl rfl hl.1 rfl (lv_room (Nat.le_of_ble_eq_true rfl)) dX0_tryOrders_112 ⟨Nat.le_of_ble_eq_true rfl, Nat.le_of_ble_eq_true rfl⟩) (fun r_4 hr_4 => ?_)
          subst hr_4
          refine lv_rwi (bi_c (tb_of hx2 hm64 (by omega))) ?_
          refine lv_if_eq (tgt := 165) hx hb dX0_tryOrders_115 (by decide) (fun c_5 => ?_) (fun c_5 => ?_)
          · have c_5 : ¬ (mask.testBit c = true) := bi_f c_5
            refine lv_iinc (v := (nI (c + 1))) (lv' := [(5, .int (nI (c + 1))), (4, .ref (ad 78)), (0, .ref (ad 0)), (1, .ref (ad v)), (2, .int x2), (3, .int x3)]) hx hb dX0_tryOrders_165 hl (k := 0) rfl (mi_add rfl rfl) (by decide) rfl (fun ls hl => ?_)
            refine lv_goto (tgt := 91) hx hb dX0_tryOrders_168 (by decide) ?_
            exact ih91  (c + 1) (mup τ 78 6 (nI 4)) (by omega) (by rw [fold_step, dfG_neg1 c_5]; exact bR_w78 hbt) (fun j hj => (mup_ne1 (by decide)).trans (hq j hj)) (kpT_78 hk) (by omega) _ _ hP hS ls (lv_sub hl [0, 1, 2, 3, 4, 5] rfl)
          · have c_5 : mask.testBit c = true := bi_t c_5
            have hbit := c_5
            refine lv_aload_n hx hb dX0_tryOrders_118 rfl (lv_at hl 2 rfl) ?_
            refine va_csr (W.runV (As := []) (rest := []) ⟨hx, hb, hml, hown, hts⟩ (mt_X0_off l D dA rr xs ad N hA (mup τ 78 6 (nI 4)) ru ((kpT_o (kpT_78 hk) (by decide)).trans hru) hru3) (cwV 0 hts (lw_V q455 q457 qs10 q45 q458) rfl rfl rfl (by decide +kernel) ⟨Nat.le_of_ble_eq_true rfl, Nat.le_of_ble_eq_true rfl⟩) ⟨mPre.blind, m_recv hE hP 0 (xl_n hA (by decide)) rfl rfl, mPre.at hE hP⟩ rfl rfl hl.1 rfl (lv_room (Nat.le_of_ble_eq_true rfl)) dX0_tryOrders_119 ⟨Nat.le_of_ble_eq_true rfl, Nat.le_of_ble_eq_true rfl⟩) (fun r_6 hr_6 => ?_)
            subst hr_6
            refine lv_aload hx hb dX0_tryOrders_122 (lv_at hl 1 rfl) ?_
            refine lv_iload_n hx hb dX0_tryOrders_124 rfl (lv_at hl 4 rfl) ?_
            refine lv_iconst (v := 1) hx hb dX0_tryOrders_125 (by decide) ?_
            refine lv_iload hx hb dX0_tryOrders_126 (lv_at hl 0 rfl) ?_
            refine lv_ishl hx hb dX0_tryOrders_128 ?_
            refine lv_iconst (v := 1) hx hb dX0_tryOrders_129 (by decide) ?_
            refine lv_isub hx hb dX0_tryOrders_130 ?_
            refine lv_iand hx hb dX0_tryOrders_131 ?_
            refine vp_callSi (W.runS (As := [.int (x2 &&& ((1 <<< ((nI c) &&& 31)) - 1))]) (rest := [.ref (ad 78), .ref (ad (14 + ru))]) ⟨hx, hb, hml, hown, hts⟩ (mt_J3_bitCount l (x2 &&& ((1 <<< ((nI c) &&& 31)) - 1))) (va_cwS 1 hts (lw_S q566 q567 q58 q568) rfl rfl rfl (by decide +kernel) ⟨Nat.le_of_ble_eq_true rfl, Nat.le_of_ble_eq_true rfl⟩) ⟨fun _ _ _ _ h => h, fun _ _ _ => ⟨rfl, trivial⟩⟩ rfl rfl hl.1 rfl (lv_room (Nat.le_of_ble_eq_true rfl)) dX0_tryOrders_132 ⟨Nat.le_of_ble_eq_true rfl, Nat.le_of_ble_eq_true rfl⟩) (fun r_7 hr_7 => ?_)
            subst hr_7
            refine lv_rwi (bc_nat (and_lo hx2 hm64 (by omega)) (Nat.lt_of_le_of_lt Nat.and_le_left hm64)) ?_
            refine mg_lets hA hx hb hml hown hts hE hP ru (by omega) 78 xw78 (nI (popc (mask &&& (2 ^ c - 1)))) hl.1 (Nat.le_of_ble_eq_true rfl) ⟨Nat.le_of_ble_eq_true rfl, Nat.le_of_ble_eq_true rfl⟩ ⟨Nat.le_of_ble_eq_true rfl, Nat.le_of_ble_eq_true rfl⟩ dX0_tryOrders_135 ?_
            refine lv_rwi (bi_c (lets_nat hru3 (popc_lt _) (mup_self _ _ _ _))) ?_
            refine lv_if_eq (tgt := 165) hx hb dX0_tryOrders_138 (by decide) (fun c_8 => ?_) (fun c_8 => ?_)
            · have c_8 : ¬ (letsN ru (popc (mask &&& (2 ^ c - 1))) 4 = true) := bi_f c_8
              refine lv_iinc (v := (nI (c + 1))) (lv' := [(5, .int (nI (c + 1))), (4, .ref (ad 78)), (0, .ref (ad 0)), (1, .ref (ad v)), (2, .int x2), (3, .int x3)]) hx hb dX0_tryOrders_165 hl (k := 0) rfl (mi_add rfl rfl) (by decide) rfl (fun ls hl => ?_)
              refine lv_goto (tgt := 91) hx hb dX0_tryOrders_168 (by decide) ?_
              exact ih91  (c + 1) (mup τ 78 6 (nI 4)) (by omega) (by rw [fold_step, dfG_neg2 c_8]; exact bR_w78 hbt) (fun j hj => (mup_ne1 (by decide)).trans (hq j hj)) (kpT_78 hk) (by omega) _ _ hP hS ls (lv_sub hl [0, 1, 2, 3, 4, 5] rfl)
            · have c_8 : letsN ru (popc (mask &&& (2 ^ c - 1))) 4 = true := bi_t c_8
              have hlet := c_8
              refine lv_aload_n hx hb dX0_tryOrders_141 rfl (lv_at hl 2 rfl) ?_
              refine mg_ref hx hb hts in_X0 hown hE hP 0 (xl_n hA (by decide)) rfl rfl 11 rfl (by decide) (hts _ q275) (fun _ h9 => h9) dX0_tryOrders_142 ?_
              refine lv_iload_n hx hb dX0_tryOrders_145 rfl (lv_at hl 5 rfl) ?_
              refine lv_iload hx hb dX0_tryOrders_146 (lv_at hl 0 rfl) ?_
              refine mg_ist (v := (nI c)) hx hb hE hD hP hS 20 (xl_n hA (by decide)) rfl dp (by omega) hx3 (by decide) dX0_tryOrders_148 (fun H locs hP hS => ?_)
              refine lv_aload_n hx hb dX0_tryOrders_149 rfl (lv_at hl 2 rfl) ?_
              refine lv_aload_n hx hb dX0_tryOrders_150 rfl (lv_at hl 3 rfl) ?_
              refine lv_iload_n hx hb dX0_tryOrders_151 rfl (lv_at hl 4 rfl) ?_
              refine lv_iconst (v := 1) hx hb dX0_tryOrders_152 (by decide) ?_
              refine lv_iload hx hb dX0_tryOrders_153 (lv_at hl 0 rfl) ?_
              refine lv_ishl hx hb dX0_tryOrders_155 ?_
              refine lv_iconst (v := (-1)) hx hb dX0_tryOrders_156 (by decide) ?_
              refine lv_ixor hx hb dX0_tryOrders_157 ?_
              refine lv_iand hx hb dX0_tryOrders_158 ?_
              refine lv_iload_n hx hb dX0_tryOrders_159 rfl (lv_at hl 5 rfl) ?_
              refine lv_iconst (v := 1) hx hb dX0_tryOrders_160 (by decide) ?_
              refine lv_iadd hx hb dX0_tryOrders_161 ?_
              refine va_callv (va_runV (As := [.ref (ad v), .int (x2 &&& ((1 <<< ((nI c) &&& 31)) ^^^ (-1))), .int (x3 + 1)]) (rest := []) ⟨hx, hb, hml, hown, hts⟩ (mt_X0_tryOrders_3 l D dA rr xs ad N hA (mup (mup τ 78 6 (nI 4)) 20 dp (nI c)) v hv hv75 A (tA hA0 (kpT_20 (kpT_78 hk)) hv hv75 hv78) n hn hn6 hv78 ru ((kpT_o (kpT_20 (kpT_78 hk)) (by decide)).trans hru) hru3 (x2 &&& ((1 <<< ((nI c) &&& 31)) ^^^ (-1))) (clr mask c) (clr_ofb hx2 hm64 (by omega) hbit) (clr_lt hm64) (clr_pc hm64 (by omega) hpc hbit) (x3 + 1) (dp + 1) (mi_add hx3 rfl) (pre ++ [c]) (by simp [hpl]) (by omega) (pre_push hpl hpre hq (by omega)) (fun o ho => hgood o (dfs_mem (by omega) hbit hlet ho)) _ (bR_w hbt)) (cwV 3 hts (lw_V q553 q555 qs17 q45 q556) rfl rfl rfl (by decide +kernel) ⟨Nat.le_of_ble_eq_true rfl, Nat.le_of_ble_eq_true rfl⟩) ⟨mPre.blind, m_recv hE hP 0 (xl_n hA (by decide)) rfl rfl, mPre.at hE hP⟩ rfl rfl hl.1 rfl (lv_room (Nat.le_of_ble_eq_true rfl)) dX0_tryOrders_162 ⟨Nat.le_of_ble_eq_true rfl, Nat.le_of_ble_eq_true rfl⟩) hS (fun q _ h => h) (fun q h => h) (fun ur_9 tr_9 H locs ht h0 hr_9 hB h1 h2 hS => ?_)
              obtain ⟨hbr, hqr, hkr⟩ := hr_9
              have hP := mB.get ht hB
              refine lv_iinc (v := (nI (c + 1))) (lv' := [(5, .int (nI (c + 1))), (4, .ref (ad 78)), (0, .ref (ad 0)), (1, .ref (ad v)), (2, .int x2), (3, .int x3)]) hx hb dX0_tryOrders_165 hl (k := 0) rfl (mi_add rfl rfl) (by decide) rfl (fun ls hl => ?_)
              refine lv_goto (tgt := 91) hx hb dX0_tryOrders_168 (by decide) ?_
              exact ih91  (c + 1) ur_9 (by omega) (by rw [fold_step, dfG_pos hbit hlet]; exact hbr) (fun j hj => (hqr j (by omega)).trans ((mup_ne2 (by omega)).trans ((mup_ne1 (by decide)).trans (hq j hj)))) (kpT_tr (kpT_20 (kpT_78 hk)) hkr) (by omega) _ _ hP hS ls (lv_sub hl [0, 1, 2, 3, 4, 5] rfl)
    exact lp91 (n - 0 + 1) 0 σ (by omega) hB0 (fun j hj => rfl) (fun a b h1 h2 => rfl) (by omega) _ _ hP hS ls (lv_sub hl [0, 1, 2, 3, 4, 5] rfl)
  · have nc_1 : mask = 0 := mi_eq hx2 rfl (by omega) (by omega) c_1
    exact absurd nc_1 hm0
set_option maxHeartbeats 4000000 in
set_option maxRecDepth 100000 in
theorem mt_X0_tryOrders_5 (l : Launch) (D : va_G) (dA : Nat → ClassId) (rr : Nat → Option Nat) (xs : Nat → mSh) (ad : Nat → Nat) (N : Nat) (hA : xA ad N) (σ : mMem) (v : Nat) (hv : xw v) (hv75 : v ≠ 75) (A : AW) (hA0 : aR σ v A) (n : Nat) (hn : A.2.2.2.length = n) (hn6 : n ≤ 6) (hv78 : v ≠ 78) (ru : Nat) (hru : σ 10 0 = nI ru) (hru3 : ru < 3) (x2 : Int32) (mask : Nat) (hx2 : x2 = nI mask) (hm64 : mask < 64) (hpc : popc mask = 5) (x3 : Int32) (dp : Nat) (hx3 : x3 = nI dp) (pre : List Nat) (hpl : pre.length = dp) (hdp : dp + 5 = n) (hpre : ∀ j, j < dp → σ 20 j = nI (lf pre j)) (hgood : ∀ o, o ∈ dfsL ru n 5 mask pre → okO (lf o) n) (Zb : Int32 × Int32 × (Nat → Nat)) (hB0 : bR σ n Zb) : Met l yX0_tryOrders (ws_ yX0_tryOrders cX0_tryOrders 6 none) ({ frames := 9, cells := 0, slots := 0, locals := 256 }) (va_Pc [.ref (ad 0), .ref (ad v), .int x2, .int x3] (mPre D dA (shX rr xs) ad N σ)) (va_Qv (fun (u : mMem) => bR u n (List.foldl (stB A) Zb (dfsL ru n 5 mask pre)) ∧ (∀ j, j < dp → u 20 j = σ 20 j) ∧ kpT σ u) (mB D dA (shX rr xs) ad N) (mAd ad N)) 0 0 (mAd ad N) := by
  refine Met.ofW (cc := cX0_tryOrders) (maxL := 6) (ret := none) (by decide) rfl ?_
  intro pp ee ss mm args below meth cd s₁ B hml hv
  obtain ⟨rfl, hP, hE⟩ := hv
  have hx := B.exec
  have hb := B.bytes
  have hr := B.returns
  have hts := atoms_spec (ws := ws_ yX0_tryOrders cX0_tryOrders 6 none) B.pre
  have hts : ∀ w ∈ lw_all, w.before _ ss = true := fun w h => hts w (List.mem_cons_of_mem _ h)
  have hown : ss.vm.findClass RX0 = some mm.cls := findClass_of_methodNamed B.named
  have hlocks := B.notSynchronized
  have hD := hA.2.self
  have hS : va_S (mAd ad N) ss.heap ss.heap [] := va_S.rf
  have hNN := hA.1
  obtain ⟨hv1, hv2, hv3⟩ := id hv
  have hm0 : mask ≠ 0 := pc_ne hpc (by decide)
  have hl := lv_entry ([.ref (ad 0), .ref (ad v), .int x2, .int x3]) (n := 6) (Nat.le_of_ble_eq_true rfl)
  rw [lg_entry_eq]
  generalize (lg_sl ([.ref (ad 0), .ref (ad v), .int x2, .int x3]) ++ List.replicate (6 - (lg_sl ([.ref (ad 0), .ref (ad v), .int x2, .int x3])).length) Slot.unset).toArray = ls at hl ⊢
  have hl : lv_has ls 6 [(0, .ref (ad 0)), (1, .ref (ad v)), (2, .int x2), (3, .int x3)] := hl
  refine lv_iload_n hx hb dX0_tryOrders_0 rfl (lv_at hl 2 rfl) ?_
  refine lv_if_ne (tgt := 82) hx hb dX0_tryOrders_1 (by decide) (fun c_1 => ?_) (fun c_1 => ?_)
  · have nc_1 : mask ≠ 0 := mi_ne hx2 rfl (by omega) (by omega) c_1
    refine lv_aload_n hx hb dX0_tryOrders_82 rfl (lv_at hl 0 rfl) ?_
    refine mg_ref hx hb hts in_X0 hown hE hP 0 (xl_n hA (by decide)) rfl rfl 4 rfl (by decide) (hts _ q268) (fun _ h9 => h9) dX0_tryOrders_83 ?_
    refine lv_astore (lv' := [(4, .ref (ad 78)), (0, .ref (ad 0)), (1, .ref (ad v)), (2, .int x2), (3, .int x3)]) hx hb dX0_tryOrders_86 hl (by decide) rfl (fun ls hl => ?_)
    refine lv_iconst (v := 0) hx hb dX0_tryOrders_88 (by decide) ?_
    refine lv_istore (lv' := [(5, .int 0), (4, .ref (ad 78)), (0, .ref (ad 0)), (1, .ref (ad v)), (2, .int x2), (3, .int x3)]) hx hb dX0_tryOrders_89 hl (by decide) rfl (fun ls hl => ?_)
    have lp91 : ∀ (fu : Nat) (c : Nat) (τ : mMem) (_ : c ≤ n) (_ : bR τ n (List.foldl (stB A) Zb ((List.range c).flatMap (dfG ru n 4 mask pre)))) (_ : ∀ j, j < dp → τ 20 j = σ 20 j) (_ : kpT σ τ) (_ : n - c < fu) (H : Heap) (locs : List Loc) (_ : va_P D xCl (mW dA (shX rr xs) ad N τ) H) (_ : va_S (mAd ad N) ss.heap H locs) (ls : Array Slot) (_ : lv_has ls 6 [(5, .int (nI c)), (4, .ref (ad 78)), (0, .ref (ad 0)), (1, .ref (ad v)), (2, .int x2), (3, .int x3)]), W pp l ee (headSpec (ws_ yX0_tryOrders cX0_tryOrders 6 none) ({ frames := 9, cells := 0, slots := 0, locals := 256 })).room ss mm ([.ref (ad 0), .ref (ad v), .int x2, .int x3] : List Value).toArray below meth cd H locs 0 0 (MQ below (va_Qv (fun (u : mMem) => bR u n (List.foldl (stB A) Zb (dfsL ru n 5 mask pre)) ∧ (∀ j, j < dp → u 20 j = σ 20 j) ∧ kpT σ u) (mB D dA (shX rr xs) ad N) (mAd ad N)) ([.ref (ad 0), .ref (ad v), .int x2, .int x3] : List Value).toArray ss 0 0 (mAd ad N)) (F0 mm 91 ls []) := by
      intro fu
      induction fu with
      | zero => intro c τ hc hbt hq hk hfu; exact absurd hfu (Nat.not_lt_zero _)
      | succ fu ih91 =>
        intro c τ hc hbt hq hk hfu H locs hP hS ls hl
        refine lv_iload hx hb dX0_tryOrders_91 (lv_at hl 0 rfl) ?_
        refine lv_aload_n hx hb dX0_tryOrders_93 rfl (lv_at hl 3 rfl) ?_
        refine mg_getN hx hb hts in_X5 hown hE hP v (xl_o hA hv) (shX_o hv) rfl 6 rfl (by decide) q127 (fun _ h9 => h9) dX0_tryOrders_94 ?_
        refine lv_icmp_ge (tgt := 171) hx hb dX0_tryOrders_97 (by decide) (fun c_2 => ?_) (fun c_2 => ?_)
        · have nc_2 : n ≤ c := mi_le (kpT_v hk hA0 hn (by omega) (by omega)) rfl (by omega) (by omega) c_2
          exact W.vret hx hb hr (fun t ht hW => ⟨⟨_, rfl, ⟨by rw [show c = n by omega] at hbt; exact hbt, hq, hk⟩, mB.of ht hP⟩, hS.F ht⟩) hS.2.2 dX0_tryOrders_171
        · have nc_2 : c < n := mi_nle (kpT_v hk hA0 hn (by omega) (by omega)) rfl (by omega) (by omega) c_2
          refine lv_aload hx hb dX0_tryOrders_100 (lv_at hl 1 rfl) ?_
          refine lv_iload_n hx hb dX0_tryOrders_102 rfl (lv_at hl 4 rfl) ?_
          refine vp_callSi (W.runS (As := [.int x2]) (rest := [.ref (ad 78)]) ⟨hx, hb, hml, hown, hts⟩ (mt_J3_bitCount l x2) (va_cwS 1 hts (lw_S q566 q567 q58 q568) rfl rfl rfl (by decide +kernel) ⟨Nat.le_of_ble_eq_true rfl, Nat.le_of_ble_eq_true rfl⟩) ⟨fun _ _ _ _ h => h, fun _ _ _ => ⟨rfl, trivial⟩⟩ rfl rfl hl.1 rfl (lv_room (Nat.le_of_ble_eq_true rfl)) dX0_tryOrders_103 ⟨Nat.le_of_ble_eq_true rfl, Nat.le_of_ble_eq_true rfl⟩) (fun r_3 hr_3 => ?_)
          subst hr_3
          refine lv_rwi (bc_nat hx2 hm64) ?_
          refine lv_rwi (congrArg nI hpc) ?_
          refine mg_putN (v := (nI 5)) (ty := .int) hx hb hts in_X5 tyX5 tyX5_ok nmX5 hown hE hD hP hS 78 (xl_o hA xw78) (shX_o xw78) rfl 6 rfl (by decide) q127 (fun _ h9 => h9) rfl (by decide +kernel) rfl rfl dX0_tryOrders_106 (fun H locs hP hS => ?_)
          refine lv_iload_n hx hb dX0_tryOrders_109 rfl (lv_at hl 4 rfl) ?_
          refine lv_iload hx hb dX0_tryOrders_110 (lv_at hl 0 rfl) ?_
          refine vp_callSi (W.runS (As := [.int x2, .int (nI c)]) (rest := []) ⟨hx, hb, hml, hown, hts⟩ (mt_X0_has l x2 (nI c)) (va_cwS 2 hts (lw_S q572 q573 q45 q574) rfl rfl rfl (by decide +kernel) ⟨Nat.le_of_ble_eq_true rfl, Nat.le_of_ble_eq_true rfl⟩) ⟨fun _ _ _ _ h => h, fun _ _ _ => ⟨rfl, trivial⟩⟩ rfl rfl hl.1 rfl (lv_room (Nat.le_of_ble_eq_true rfl)) dX0_tryOrders_112 ⟨Nat.le_of_ble_eq_true rfl, Nat.le_of_ble_eq_true rfl⟩) (fun r_4 hr_4 => ?_)
          subst hr_4
          refine lv_rwi (bi_c (tb_of hx2 hm64 (by omega))) ?_
          refine lv_if_eq (tgt := 165) hx hb dX0_tryOrders_115 (by decide) (fun c_5 => ?_) (fun c_5 => ?_)
          · have c_5 : ¬ (mask.testBit c = true) := bi_f c_5
            refine lv_iinc (v := (nI (c + 1))) (lv' := [(5, .int (nI (c + 1))), (4, .ref (ad 78)), (0, .ref (ad 0)), (1, .ref (ad v)), (2, .int x2), (3, .int x3)]) hx hb dX0_tryOrders_165 hl (k := 0) rfl (mi_add rfl rfl) (by decide) rfl (fun ls hl => ?_)
            refine lv_goto (tgt := 91) hx hb dX0_tryOrders_168 (by decide) ?_
            exact ih91  (c + 1) (mup τ 78 6 (nI 5)) (by omega) (by rw [fold_step, dfG_neg1 c_5]; exact bR_w78 hbt) (fun j hj => (mup_ne1 (by decide)).trans (hq j hj)) (kpT_78 hk) (by omega) _ _ hP hS ls (lv_sub hl [0, 1, 2, 3, 4, 5] rfl)
          · have c_5 : mask.testBit c = true := bi_t c_5
            have hbit := c_5
            refine lv_aload_n hx hb dX0_tryOrders_118 rfl (lv_at hl 2 rfl) ?_
            refine va_csr (W.runV (As := []) (rest := []) ⟨hx, hb, hml, hown, hts⟩ (mt_X0_off l D dA rr xs ad N hA (mup τ 78 6 (nI 5)) ru ((kpT_o (kpT_78 hk) (by decide)).trans hru) hru3) (cwV 0 hts (lw_V q455 q457 qs10 q45 q458) rfl rfl rfl (by decide +kernel) ⟨Nat.le_of_ble_eq_true rfl, Nat.le_of_ble_eq_true rfl⟩) ⟨mPre.blind, m_recv hE hP 0 (xl_n hA (by decide)) rfl rfl, mPre.at hE hP⟩ rfl rfl hl.1 rfl (lv_room (Nat.le_of_ble_eq_true rfl)) dX0_tryOrders_119 ⟨Nat.le_of_ble_eq_true rfl, Nat.le_of_ble_eq_true rfl⟩) (fun r_6 hr_6 => ?_)
            subst hr_6
            refine lv_aload hx hb dX0_tryOrders_122 (lv_at hl 1 rfl) ?_
            refine lv_iload_n hx hb dX0_tryOrders_124 rfl (lv_at hl 4 rfl) ?_
            refine lv_iconst (v := 1) hx hb dX0_tryOrders_125 (by decide) ?_
            refine lv_iload hx hb dX0_tryOrders_126 (lv_at hl 0 rfl) ?_
            refine lv_ishl hx hb dX0_tryOrders_128 ?_
            refine lv_iconst (v := 1) hx hb dX0_tryOrders_129 (by decide) ?_
            refine lv_isub hx hb dX0_tryOrders_130 ?_
            refine lv_iand hx hb dX0_tryOrders_131 ?_
            refine vp_callSi (W.runS (As := [.int (x2 &&& ((1 <<< ((nI c) &&& 31)) - 1))]) (rest := [.ref (ad 78), .ref (ad (14 + ru))]) ⟨hx, hb, hml, hown, hts⟩ (mt_J3_bitCount l (x2 &&& ((1 <<< ((nI c) &&& 31)) - 1))) (va_cwS 1 hts (lw_S q566 q567 q58 q568) rfl rfl rfl (by decide +kernel) ⟨Nat.le_of_ble_eq_true rfl, Nat.le_of_ble_eq_true rfl⟩) ⟨fun _ _ _ _ h => h, fun _ _ _ => ⟨rfl, trivial⟩⟩ rfl rfl hl.1 rfl (lv_room (Nat.le_of_ble_eq_true rfl)) dX0_tryOrders_132 ⟨Nat.le_of_ble_eq_true rfl, Nat.le_of_ble_eq_true rfl⟩) (fun r_7 hr_7 => ?_)
            subst hr_7
            refine lv_rwi (bc_nat (and_lo hx2 hm64 (by omega)) (Nat.lt_of_le_of_lt Nat.and_le_left hm64)) ?_
            refine mg_lets hA hx hb hml hown hts hE hP ru (by omega) 78 xw78 (nI (popc (mask &&& (2 ^ c - 1)))) hl.1 (Nat.le_of_ble_eq_true rfl) ⟨Nat.le_of_ble_eq_true rfl, Nat.le_of_ble_eq_true rfl⟩ ⟨Nat.le_of_ble_eq_true rfl, Nat.le_of_ble_eq_true rfl⟩ dX0_tryOrders_135 ?_
            refine lv_rwi (bi_c (lets_nat hru3 (popc_lt _) (mup_self _ _ _ _))) ?_
            refine lv_if_eq (tgt := 165) hx hb dX0_tryOrders_138 (by decide) (fun c_8 => ?_) (fun c_8 => ?_)
            · have c_8 : ¬ (letsN ru (popc (mask &&& (2 ^ c - 1))) 5 = true) := bi_f c_8
              refine lv_iinc (v := (nI (c + 1))) (lv' := [(5, .int (nI (c + 1))), (4, .ref (ad 78)), (0, .ref (ad 0)), (1, .ref (ad v)), (2, .int x2), (3, .int x3)]) hx hb dX0_tryOrders_165 hl (k := 0) rfl (mi_add rfl rfl) (by decide) rfl (fun ls hl => ?_)
              refine lv_goto (tgt := 91) hx hb dX0_tryOrders_168 (by decide) ?_
              exact ih91  (c + 1) (mup τ 78 6 (nI 5)) (by omega) (by rw [fold_step, dfG_neg2 c_8]; exact bR_w78 hbt) (fun j hj => (mup_ne1 (by decide)).trans (hq j hj)) (kpT_78 hk) (by omega) _ _ hP hS ls (lv_sub hl [0, 1, 2, 3, 4, 5] rfl)
            · have c_8 : letsN ru (popc (mask &&& (2 ^ c - 1))) 5 = true := bi_t c_8
              have hlet := c_8
              refine lv_aload_n hx hb dX0_tryOrders_141 rfl (lv_at hl 2 rfl) ?_
              refine mg_ref hx hb hts in_X0 hown hE hP 0 (xl_n hA (by decide)) rfl rfl 11 rfl (by decide) (hts _ q275) (fun _ h9 => h9) dX0_tryOrders_142 ?_
              refine lv_iload_n hx hb dX0_tryOrders_145 rfl (lv_at hl 5 rfl) ?_
              refine lv_iload hx hb dX0_tryOrders_146 (lv_at hl 0 rfl) ?_
              refine mg_ist (v := (nI c)) hx hb hE hD hP hS 20 (xl_n hA (by decide)) rfl dp (by omega) hx3 (by decide) dX0_tryOrders_148 (fun H locs hP hS => ?_)
              refine lv_aload_n hx hb dX0_tryOrders_149 rfl (lv_at hl 2 rfl) ?_
              refine lv_aload_n hx hb dX0_tryOrders_150 rfl (lv_at hl 3 rfl) ?_
              refine lv_iload_n hx hb dX0_tryOrders_151 rfl (lv_at hl 4 rfl) ?_
              refine lv_iconst (v := 1) hx hb dX0_tryOrders_152 (by decide) ?_
              refine lv_iload hx hb dX0_tryOrders_153 (lv_at hl 0 rfl) ?_
              refine lv_ishl hx hb dX0_tryOrders_155 ?_
              refine lv_iconst (v := (-1)) hx hb dX0_tryOrders_156 (by decide) ?_
              refine lv_ixor hx hb dX0_tryOrders_157 ?_
              refine lv_iand hx hb dX0_tryOrders_158 ?_
              refine lv_iload_n hx hb dX0_tryOrders_159 rfl (lv_at hl 5 rfl) ?_
              refine lv_iconst (v := 1) hx hb dX0_tryOrders_160 (by decide) ?_
              refine lv_iadd hx hb dX0_tryOrders_161 ?_
              refine va_callv (va_runV (As := [.ref (ad v), .int (x2 &&& ((1 <<< ((nI c) &&& 31)) ^^^ (-1))), .int (x3 + 1)]) (rest := []) ⟨hx, hb, hml, hown, hts⟩ (mt_X0_tryOrders_4 l D dA rr xs ad N hA (mup (mup τ 78 6 (nI 5)) 20 dp (nI c)) v hv hv75 A (tA hA0 (kpT_20 (kpT_78 hk)) hv hv75 hv78) n hn hn6 hv78 ru ((kpT_o (kpT_20 (kpT_78 hk)) (by decide)).trans hru) hru3 (x2 &&& ((1 <<< ((nI c) &&& 31)) ^^^ (-1))) (clr mask c) (clr_ofb hx2 hm64 (by omega) hbit) (clr_lt hm64) (clr_pc hm64 (by omega) hpc hbit) (x3 + 1) (dp + 1) (mi_add hx3 rfl) (pre ++ [c]) (by simp [hpl]) (by omega) (pre_push hpl hpre hq (by omega)) (fun o ho => hgood o (dfs_mem (by omega) hbit hlet ho)) _ (bR_w hbt)) (cwV 3 hts (lw_V q553 q555 qs17 q45 q556) rfl rfl rfl (by decide +kernel) ⟨Nat.le_of_ble_eq_true rfl, Nat.le_of_ble_eq_true rfl⟩) ⟨mPre.blind, m_recv hE hP 0 (xl_n hA (by decide)) rfl rfl, mPre.at hE hP⟩ rfl rfl hl.1 rfl (lv_room (Nat.le_of_ble_eq_true rfl)) dX0_tryOrders_162 ⟨Nat.le_of_ble_eq_true rfl, Nat.le_of_ble_eq_true rfl⟩) hS (fun q _ h => h) (fun q h => h) (fun ur_9 tr_9 H locs ht h0 hr_9 hB h1 h2 hS => ?_)
              obtain ⟨hbr, hqr, hkr⟩ := hr_9
              have hP := mB.get ht hB
              refine lv_iinc (v := (nI (c + 1))) (lv' := [(5, .int (nI (c + 1))), (4, .ref (ad 78)), (0, .ref (ad 0)), (1, .ref (ad v)), (2, .int x2), (3, .int x3)]) hx hb dX0_tryOrders_165 hl (k := 0) rfl (mi_add rfl rfl) (by decide) rfl (fun ls hl => ?_)
              refine lv_goto (tgt := 91) hx hb dX0_tryOrders_168 (by decide) ?_
              exact ih91  (c + 1) ur_9 (by omega) (by rw [fold_step, dfG_pos hbit hlet]; exact hbr) (fun j hj => (hqr j (by omega)).trans ((mup_ne2 (by omega)).trans ((mup_ne1 (by decide)).trans (hq j hj)))) (kpT_tr (kpT_20 (kpT_78 hk)) hkr) (by omega) _ _ hP hS ls (lv_sub hl [0, 1, 2, 3, 4, 5] rfl)
    exact lp91 (n - 0 + 1) 0 σ (by omega) hB0 (fun j hj => rfl) (fun a b h1 h2 => rfl) (by omega) _ _ hP hS ls (lv_sub hl [0, 1, 2, 3, 4, 5] rfl)
  · have nc_1 : mask = 0 := mi_eq hx2 rfl (by omega) (by omega) c_1
    exact absurd nc_1 hm0
set_option maxHeartbeats 4000000 in
set_option maxRecDepth 100000 in
theorem mt_X0_tryOrders_6 (l : Launch) (D : va_G) (dA : Nat → ClassId) (rr : Nat → Option Nat) (xs : Nat → mSh) (ad : Nat → Nat) (N : Nat) (hA : xA ad N) (σ : mMem) (v : Nat) (hv : xw v) (hv75 : v ≠ 75) (A : AW) (hA0 : aR σ v A) (n : Nat) (hn : A.2.2.2.length = n) (hn6 : n ≤ 6) (hv78 : v ≠ 78) (ru : Nat) (hru : σ 10 0 = nI ru) (hru3 : ru < 3) (x2 : Int32) (mask : Nat) (hx2 : x2 = nI mask) (hm64 : mask < 64) (hpc : popc mask = 6) (x3 : Int32) (dp : Nat) (hx3 : x3 = nI dp) (pre : List Nat) (hpl : pre.length = dp) (hdp : dp + 6 = n) (hpre : ∀ j, j < dp → σ 20 j = nI (lf pre j)) (hgood : ∀ o, o ∈ dfsL ru n 6 mask pre → okO (lf o) n) (Zb : Int32 × Int32 × (Nat → Nat)) (hB0 : bR σ n Zb) : Met l yX0_tryOrders (ws_ yX0_tryOrders cX0_tryOrders 6 none) ({ frames := 10, cells := 0, slots := 0, locals := 281 }) (va_Pc [.ref (ad 0), .ref (ad v), .int x2, .int x3] (mPre D dA (shX rr xs) ad N σ)) (va_Qv (fun (u : mMem) => bR u n (List.foldl (stB A) Zb (dfsL ru n 6 mask pre)) ∧ (∀ j, j < dp → u 20 j = σ 20 j) ∧ kpT σ u) (mB D dA (shX rr xs) ad N) (mAd ad N)) 0 0 (mAd ad N) := by
  refine Met.ofW (cc := cX0_tryOrders) (maxL := 6) (ret := none) (by decide) rfl ?_
  intro pp ee ss mm args below meth cd s₁ B hml hv
  obtain ⟨rfl, hP, hE⟩ := hv
  have hx := B.exec
  have hb := B.bytes
  have hr := B.returns
  have hts := atoms_spec (ws := ws_ yX0_tryOrders cX0_tryOrders 6 none) B.pre
  have hts : ∀ w ∈ lw_all, w.before _ ss = true := fun w h => hts w (List.mem_cons_of_mem _ h)
  have hown : ss.vm.findClass RX0 = some mm.cls := findClass_of_methodNamed B.named
  have hlocks := B.notSynchronized
  have hD := hA.2.self
  have hS : va_S (mAd ad N) ss.heap ss.heap [] := va_S.rf
  have hNN := hA.1
  obtain ⟨hv1, hv2, hv3⟩ := id hv
  have hm0 : mask ≠ 0 := pc_ne hpc (by decide)
  have hl := lv_entry ([.ref (ad 0), .ref (ad v), .int x2, .int x3]) (n := 6) (Nat.le_of_ble_eq_true rfl)
  rw [lg_entry_eq]
  generalize (lg_sl ([.ref (ad 0), .ref (ad v), .int x2, .int x3]) ++ List.replicate (6 - (lg_sl ([.ref (ad 0), .ref (ad v), .int x2, .int x3])).length) Slot.unset).toArray = ls at hl ⊢
  have hl : lv_has ls 6 [(0, .ref (ad 0)), (1, .ref (ad v)), (2, .int x2), (3, .int x3)] := hl
  refine lv_iload_n hx hb dX0_tryOrders_0 rfl (lv_at hl 2 rfl) ?_
  refine lv_if_ne (tgt := 82) hx hb dX0_tryOrders_1 (by decide) (fun c_1 => ?_) (fun c_1 => ?_)
  · have nc_1 : mask ≠ 0 := mi_ne hx2 rfl (by omega) (by omega) c_1
    refine lv_aload_n hx hb dX0_tryOrders_82 rfl (lv_at hl 0 rfl) ?_
    refine mg_ref hx hb hts in_X0 hown hE hP 0 (xl_n hA (by decide)) rfl rfl 4 rfl (by decide) (hts _ q268) (fun _ h9 => h9) dX0_tryOrders_83 ?_
    refine lv_astore (lv' := [(4, .ref (ad 78)), (0, .ref (ad 0)), (1, .ref (ad v)), (2, .int x2), (3, .int x3)]) hx hb dX0_tryOrders_86 hl (by decide) rfl (fun ls hl => ?_)
    refine lv_iconst (v := 0) hx hb dX0_tryOrders_88 (by decide) ?_
    refine lv_istore (lv' := [(5, .int 0), (4, .ref (ad 78)), (0, .ref (ad 0)), (1, .ref (ad v)), (2, .int x2), (3, .int x3)]) hx hb dX0_tryOrders_89 hl (by decide) rfl (fun ls hl => ?_)
    have lp91 : ∀ (fu : Nat) (c : Nat) (τ : mMem) (_ : c ≤ n) (_ : bR τ n (List.foldl (stB A) Zb ((List.range c).flatMap (dfG ru n 5 mask pre)))) (_ : ∀ j, j < dp → τ 20 j = σ 20 j) (_ : kpT σ τ) (_ : n - c < fu) (H : Heap) (locs : List Loc) (_ : va_P D xCl (mW dA (shX rr xs) ad N τ) H) (_ : va_S (mAd ad N) ss.heap H locs) (ls : Array Slot) (_ : lv_has ls 6 [(5, .int (nI c)), (4, .ref (ad 78)), (0, .ref (ad 0)), (1, .ref (ad v)), (2, .int x2), (3, .int x3)]), W pp l ee (headSpec (ws_ yX0_tryOrders cX0_tryOrders 6 none) ({ frames := 10, cells := 0, slots := 0, locals := 281 })).room ss mm ([.ref (ad 0), .ref (ad v), .int x2, .int x3] : List Value).toArray below meth cd H locs 0 0 (MQ below (va_Qv (fun (u : mMem) => bR u n (List.foldl (stB A) Zb (dfsL ru n 6 mask pre)) ∧ (∀ j, j < dp → u 20 j = σ 20 j) ∧ kpT σ u) (mB D dA (shX rr xs) ad N) (mAd ad N)) ([.ref (ad 0), .ref (ad v), .int x2, .int x3] : List Value).toArray ss 0 0 (mAd ad N)) (F0 mm 91 ls []) := by
      intro fu
      induction fu with
      | zero => intro c τ hc hbt hq hk hfu; exact absurd hfu (Nat.not_lt_zero _)
      | succ fu ih91 =>
        intro c τ hc hbt hq hk hfu H locs hP hS ls hl
        refine lv_iload hx hb dX0_tryOrders_91 (lv_at hl 0 rfl) ?_
        refine lv_aload_n hx hb dX0_tryOrders_93 rfl (lv_at hl 3 rfl) ?_
        refine mg_getN hx hb hts in_X5 hown hE hP v (xl_o hA hv) (shX_o hv) rfl 6 rfl (by decide) q127 (fun _ h9 => h9) dX0_tryOrders_94 ?_
        refine lv_icmp_ge (tgt := 171) hx hb dX0_tryOrders_97 (by decide) (fun c_2 => ?_) (fun c_2 => ?_)
        · have nc_2 : n ≤ c := mi_le (kpT_v hk hA0 hn (by omega) (by omega)) rfl (by omega) (by omega) c_2
          exact W.vret hx hb hr (fun t ht hW => ⟨⟨_, rfl, ⟨by rw [show c = n by omega] at hbt; exact hbt, hq, hk⟩, mB.of ht hP⟩, hS.F ht⟩) hS.2.2 dX0_tryOrders_171
        · have nc_2 : c < n := mi_nle (kpT_v hk hA0 hn (by omega) (by omega)) rfl (by omega) (by omega) c_2
          refine lv_aload hx hb dX0_tryOrders_100 (lv_at hl 1 rfl) ?_
          refine lv_iload_n hx hb dX0_tryOrders_102 rfl (lv_at hl 4 rfl) ?_
          refine vp_callSi (W.runS (As := [.int x2]) (rest := [.ref (ad 78)]) ⟨hx, hb, hml, hown, hts⟩ (mt_J3_bitCount l x2) (va_cwS 1 hts (lw_S q566 q567 q58 q568) rfl rfl rfl (by decide +kernel) ⟨Nat.le_of_ble_eq_true rfl, Nat.le_of_ble_eq_true rfl⟩) ⟨fun _ _ _ _ h => h, fun _ _ _ => ⟨rfl, trivial⟩⟩ rfl rfl hl.1 rfl (lv_room (Nat.le_of_ble_eq_true rfl)) dX0_tryOrders_103 ⟨Nat.le_of_ble_eq_true rfl, Nat.le_of_ble_eq_true rfl⟩) (fun r_3 hr_3 => ?_)
          subst hr_3
          refine lv_rwi (bc_nat hx2 hm64) ?_
          refine lv_rwi (congrArg nI hpc) ?_
          refine mg_putN (v := (nI 6)) (ty := .int) hx hb hts in_X5 tyX5 tyX5_ok nmX5 hown hE hD hP hS 78 (xl_o hA xw78) (shX_o xw78) rfl 6 rfl (by decide) q127 (fun _ h9 => h9) rfl (by decide +kernel) rfl rfl dX0_tryOrders_106 (fun H locs hP hS => ?_)
          refine lv_iload_n hx hb dX0_tryOrders_109 rfl (lv_at hl 4 rfl) ?_
          refine lv_iload hx hb dX0_tryOrders_110 (lv_at hl 0 rfl) ?_
          refine vp_callSi (W.runS (As := [.int x2, .int (nI c)]) (rest := []) ⟨hx, hb, hml, hown, hts⟩ (mt_X0_has l x2 (nI c)) (va_cwS 2 hts (lw_S q572 q573 q45 q574) rfl rfl rfl (by decide +kernel) ⟨Nat.le_of_ble_eq_true rfl, Nat.le_of_ble_eq_true rfl⟩) ⟨fun _ _ _ _ h => h, fun _ _ _ => ⟨rfl, trivial⟩⟩ rfl rfl hl.1 rfl (lv_room (Nat.le_of_ble_eq_true rfl)) dX0_tryOrders_112 ⟨Nat.le_of_ble_eq_true rfl, Nat.le_of_ble_eq_true rfl⟩) (fun r_4 hr_4 => ?_)
          subst hr_4
          refine lv_rwi (bi_c (tb_of hx2 hm64 (by omega))) ?_
          refine lv_if_eq (tgt := 165) hx hb dX0_tryOrders_115 (by decide) (fun c_5 => ?_) (fun c_5 => ?_)
          · have c_5 : ¬ (mask.testBit c = true) := bi_f c_5
            refine lv_iinc (v := (nI (c + 1))) (lv' := [(5, .int (nI (c + 1))), (4, .ref (ad 78)), (0, .ref (ad 0)), (1, .ref (ad v)), (2, .int x2), (3, .int x3)]) hx hb dX0_tryOrders_165 hl (k := 0) rfl (mi_add rfl rfl) (by decide) rfl (fun ls hl => ?_)
            refine lv_goto (tgt := 91) hx hb dX0_tryOrders_168 (by decide) ?_
            exact ih91  (c + 1) (mup τ 78 6 (nI 6)) (by omega) (by rw [fold_step, dfG_neg1 c_5]; exact bR_w78 hbt) (fun j hj => (mup_ne1 (by decide)).trans (hq j hj)) (kpT_78 hk) (by omega) _ _ hP hS ls (lv_sub hl [0, 1, 2, 3, 4, 5] rfl)
          · have c_5 : mask.testBit c = true := bi_t c_5
            have hbit := c_5
            refine lv_aload_n hx hb dX0_tryOrders_118 rfl (lv_at hl 2 rfl) ?_
            refine va_csr (W.runV (As := []) (rest := []) ⟨hx, hb, hml, hown, hts⟩ (mt_X0_off l D dA rr xs ad N hA (mup τ 78 6 (nI 6)) ru ((kpT_o (kpT_78 hk) (by decide)).trans hru) hru3) (cwV 0 hts (lw_V q455 q457 qs10 q45 q458) rfl rfl rfl (by decide +kernel) ⟨Nat.le_of_ble_eq_true rfl, Nat.le_of_ble_eq_true rfl⟩) ⟨mPre.blind, m_recv hE hP 0 (xl_n hA (by decide)) rfl rfl, mPre.at hE hP⟩ rfl rfl hl.1 rfl (lv_room (Nat.le_of_ble_eq_true rfl)) dX0_tryOrders_119 ⟨Nat.le_of_ble_eq_true rfl, Nat.le_of_ble_eq_true rfl⟩) (fun r_6 hr_6 => ?_)
            subst hr_6
            refine lv_aload hx hb dX0_tryOrders_122 (lv_at hl 1 rfl) ?_
            refine lv_iload_n hx hb dX0_tryOrders_124 rfl (lv_at hl 4 rfl) ?_
            refine lv_iconst (v := 1) hx hb dX0_tryOrders_125 (by decide) ?_
            refine lv_iload hx hb dX0_tryOrders_126 (lv_at hl 0 rfl) ?_
            refine lv_ishl hx hb dX0_tryOrders_128 ?_
            refine lv_iconst (v := 1) hx hb dX0_tryOrders_129 (by decide) ?_
            refine lv_isub hx hb dX0_tryOrders_130 ?_
            refine lv_iand hx hb dX0_tryOrders_131 ?_
            refine vp_callSi (W.runS (As := [.int (x2 &&& ((1 <<< ((nI c) &&& 31)) - 1))]) (rest := [.ref (ad 78), .ref (ad (14 + ru))]) ⟨hx, hb, hml, hown, hts⟩ (mt_J3_bitCount l (x2 &&& ((1 <<< ((nI c) &&& 31)) - 1))) (va_cwS 1 hts (lw_S q566 q567 q58 q568) rfl rfl rfl (by decide +kernel) ⟨Nat.le_of_ble_eq_true rfl, Nat.le_of_ble_eq_true rfl⟩) ⟨fun _ _ _ _ h => h, fun _ _ _ => ⟨rfl, trivial⟩⟩ rfl rfl hl.1 rfl (lv_room (Nat.le_of_ble_eq_true rfl)) dX0_tryOrders_132 ⟨Nat.le_of_ble_eq_true rfl, Nat.le_of_ble_eq_true rfl⟩) (fun r_7 hr_7 => ?_)
            subst hr_7
            refine lv_rwi (bc_nat (and_lo hx2 hm64 (by omega)) (Nat.lt_of_le_of_lt Nat.and_le_left hm64)) ?_
            refine mg_lets hA hx hb hml hown hts hE hP ru (by omega) 78 xw78 (nI (popc (mask &&& (2 ^ c - 1)))) hl.1 (Nat.le_of_ble_eq_true rfl) ⟨Nat.le_of_ble_eq_true rfl, Nat.le_of_ble_eq_true rfl⟩ ⟨Nat.le_of_ble_eq_true rfl, Nat.le_of_ble_eq_true rfl⟩ dX0_tryOrders_135 ?_
            refine lv_rwi (bi_c (lets_nat hru3 (popc_lt _) (mup_self _ _ _ _))) ?_
            refine lv_if_eq (tgt := 165) hx hb dX0_tryOrders_138 (by decide) (fun c_8 => ?_) (fun c_8 => ?_)
            · have c_8 : ¬ (letsN ru (popc (mask &&& (2 ^ c - 1))) 6 = true) := bi_f c_8
              refine lv_iinc (v := (nI (c + 1))) (lv' := [(5, .int (nI (c + 1))), (4, .ref (ad 78)), (0, .ref (ad 0)), (1, .ref (ad v)), (2, .int x2), (3, .int x3)]) hx hb dX0_tryOrders_165 hl (k := 0) rfl (mi_add rfl rfl) (by decide) rfl (fun ls hl => ?_)
              refine lv_goto (tgt := 91) hx hb dX0_tryOrders_168 (by decide) ?_
              exact ih91  (c + 1) (mup τ 78 6 (nI 6)) (by omega) (by rw [fold_step, dfG_neg2 c_8]; exact bR_w78 hbt) (fun j hj => (mup_ne1 (by decide)).trans (hq j hj)) (kpT_78 hk) (by omega) _ _ hP hS ls (lv_sub hl [0, 1, 2, 3, 4, 5] rfl)
            · have c_8 : letsN ru (popc (mask &&& (2 ^ c - 1))) 6 = true := bi_t c_8
              have hlet := c_8
              refine lv_aload_n hx hb dX0_tryOrders_141 rfl (lv_at hl 2 rfl) ?_
              refine mg_ref hx hb hts in_X0 hown hE hP 0 (xl_n hA (by decide)) rfl rfl 11 rfl (by decide) (hts _ q275) (fun _ h9 => h9) dX0_tryOrders_142 ?_
              refine lv_iload_n hx hb dX0_tryOrders_145 rfl (lv_at hl 5 rfl) ?_
              refine lv_iload hx hb dX0_tryOrders_146 (lv_at hl 0 rfl) ?_
              refine mg_ist (v := (nI c)) hx hb hE hD hP hS 20 (xl_n hA (by decide)) rfl dp (by omega) hx3 (by decide) dX0_tryOrders_148 (fun H locs hP hS => ?_)
              refine lv_aload_n hx hb dX0_tryOrders_149 rfl (lv_at hl 2 rfl) ?_
              refine lv_aload_n hx hb dX0_tryOrders_150 rfl (lv_at hl 3 rfl) ?_
              refine lv_iload_n hx hb dX0_tryOrders_151 rfl (lv_at hl 4 rfl) ?_
              refine lv_iconst (v := 1) hx hb dX0_tryOrders_152 (by decide) ?_
              refine lv_iload hx hb dX0_tryOrders_153 (lv_at hl 0 rfl) ?_
              refine lv_ishl hx hb dX0_tryOrders_155 ?_
              refine lv_iconst (v := (-1)) hx hb dX0_tryOrders_156 (by decide) ?_
              refine lv_ixor hx hb dX0_tryOrders_157 ?_
              refine lv_iand hx hb dX0_tryOrders_158 ?_
              refine lv_iload_n hx hb dX0_tryOrders_159 rfl (lv_at hl 5 rfl) ?_
              refine lv_iconst (v := 1) hx hb dX0_tryOrders_160 (by decide) ?_
              refine lv_iadd hx hb dX0_tryOrders_161 ?_
              refine va_callv (va_runV (As := [.ref (ad v), .int (x2 &&& ((1 <<< ((nI c) &&& 31)) ^^^ (-1))), .int (x3 + 1)]) (rest := []) ⟨hx, hb, hml, hown, hts⟩ (mt_X0_tryOrders_5 l D dA rr xs ad N hA (mup (mup τ 78 6 (nI 6)) 20 dp (nI c)) v hv hv75 A (tA hA0 (kpT_20 (kpT_78 hk)) hv hv75 hv78) n hn hn6 hv78 ru ((kpT_o (kpT_20 (kpT_78 hk)) (by decide)).trans hru) hru3 (x2 &&& ((1 <<< ((nI c) &&& 31)) ^^^ (-1))) (clr mask c) (clr_ofb hx2 hm64 (by omega) hbit) (clr_lt hm64) (clr_pc hm64 (by omega) hpc hbit) (x3 + 1) (dp + 1) (mi_add hx3 rfl) (pre ++ [c]) (by simp [hpl]) (by omega) (pre_push hpl hpre hq (by omega)) (fun o ho => hgood o (dfs_mem (by omega) hbit hlet ho)) _ (bR_w hbt)) (cwV 3 hts (lw_V q553 q555 qs17 q45 q556) rfl rfl rfl (by decide +kernel) ⟨Nat.le_of_ble_eq_true rfl, Nat.le_of_ble_eq_true rfl⟩) ⟨mPre.blind, m_recv hE hP 0 (xl_n hA (by decide)) rfl rfl, mPre.at hE hP⟩ rfl rfl hl.1 rfl (lv_room (Nat.le_of_ble_eq_true rfl)) dX0_tryOrders_162 ⟨Nat.le_of_ble_eq_true rfl, Nat.le_of_ble_eq_true rfl⟩) hS (fun q _ h => h) (fun q h => h) (fun ur_9 tr_9 H locs ht h0 hr_9 hB h1 h2 hS => ?_)
              obtain ⟨hbr, hqr, hkr⟩ := hr_9
              have hP := mB.get ht hB
              refine lv_iinc (v := (nI (c + 1))) (lv' := [(5, .int (nI (c + 1))), (4, .ref (ad 78)), (0, .ref (ad 0)), (1, .ref (ad v)), (2, .int x2), (3, .int x3)]) hx hb dX0_tryOrders_165 hl (k := 0) rfl (mi_add rfl rfl) (by decide) rfl (fun ls hl => ?_)
              refine lv_goto (tgt := 91) hx hb dX0_tryOrders_168 (by decide) ?_
              exact ih91  (c + 1) ur_9 (by omega) (by rw [fold_step, dfG_pos hbit hlet]; exact hbr) (fun j hj => (hqr j (by omega)).trans ((mup_ne2 (by omega)).trans ((mup_ne1 (by decide)).trans (hq j hj)))) (kpT_tr (kpT_20 (kpT_78 hk)) hkr) (by omega) _ _ hP hS ls (lv_sub hl [0, 1, 2, 3, 4, 5] rfl)
    exact lp91 (n - 0 + 1) 0 σ (by omega) hB0 (fun j hj => rfl) (fun a b h1 h2 => rfl) (by omega) _ _ hP hS ls (lv_sub hl [0, 1, 2, 3, 4, 5] rfl)
  · have nc_1 : mask = 0 := mi_eq hx2 rfl (by omega) (by omega) c_1
    exact absurd nc_1 hm0
