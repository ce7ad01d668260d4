/-- a wearer in a row of the reference -/
def mR (σ : mMem) (st p : Nat) (A : AW) : Prop := σ st (40 * p) = A.1 ∧ σ st (40 * p + 1) = A.2.1 ∧ (∀ l, l < 5 → σ 3 (5 * p + l) = A.2.2.1 l) ∧ σ st (40 * p + 3) = nI A.2.2.2.length ∧ A.2.2.2.length ≤ 8 ∧ cR (fun k => σ st (40 * p + 8 + k)) A.2.2.2 ∧ ∀ x ∈ A.2.2.2, x.1 < 5
/-- what is tried at first -/
def sR (σ : mMem) (p : Nat) (A : AW) : Prop := σ 12 0 = A.1 ∧ σ 12 1 = A.2.1 ∧ (∀ l, l < 5 → σ 3 (5 * p + l) = A.2.2.1 l) ∧ σ 12 3 = nI A.2.2.2.length ∧ A.2.2.2.length ≤ 8 ∧ cR (fun k => σ 12 (8 + k)) A.2.2.2 ∧ ∀ x ∈ A.2.2.2, x.1 < 5
theorem mR_ld {σ : mMem} {st p : Nat} {A : AW} (h : mR σ st p A) : ∀ c, c < A.2.2.2.length → σ st (40 * p + 8 + 4 * c) = nI (aLd A c) ∧ aLd A c < 5 := by
  intro c hc
  have e : A.2.2.2[c]? = some (A.2.2.2.getD c (0, 0, 0, 0)) := by
    rw [List.getD_eq_getElem?_getD, List.getElem?_eq_getElem hc]; rfl
  exact ⟨(h.2.2.2.2.2.1 c _ e).1, h.2.2.2.2.2.2 _ (List.mem_of_getElem? e)⟩
theorem mR_keep {σ τ : mMem} {st p : Nat} {A : AW} (h : mR σ st p A) (h1 : ∀ b, 40 * p ≤ b → b < 40 * p + 40 → τ st b = σ st b) (h2 : ∀ b, τ 3 b = σ 3 b) : mR τ st p A := by
  obtain ⟨a1, a2, a3, a4, a5, a6, a7⟩ := h
  exact ⟨(h1 _ (by omega) (by omega)).trans a1, (h1 _ (by omega) (by omega)).trans a2, fun l hl => (h2 _).trans (a3 l hl), (h1 _ (by omega) (by omega)).trans a4, a5, a6.congr (fun k hk => h1 _ (by omega) (by omega)), a7⟩
theorem osh_at (f : Nat → Int32) (b k m i : Nat) : osh f b k m i = if b + 8 + k ≤ i ∧ i < b + 8 + k + m then f (i + 4) else f i := by
  induction m generalizing i with
  | zero => rw [osh, if_neg (by omega)]
  | succ m ih =>
    rw [osh]
    by_cases h : i = b + 8 + (k + m)
    · subst h
      rw [pk_us, if_pos (by omega), ih, if_neg (by omega)]
      congr 1; omega
    · rw [pk_un h, ih]
      by_cases h2 : b + 8 + k ≤ i ∧ i < b + 8 + k + m
      · rw [if_pos h2, if_pos (by omega)]
      · rw [if_neg h2, if_neg (by omega)]
theorem offM_at {σ : mMem} {st p n c j : Nat} (h : j ≠ 40 * p + 3) : offM σ st p n c st j = if 40 * p + 8 + 4 * c ≤ j ∧ j < 40 * p + 8 + 4 * c + 4 * (n - 1 - c) then σ st (j + 4) else σ st j := by
  unfold offM
  rw [va_up_self, osh_at]
  split
  · rw [pk_un (by omega)]
  · rw [pk_un h]
theorem mR_off {σ : mMem} {st p : Nat} {A : AW} (hst : st ≠ 3) (h : mR σ st p A) {c : Nat} (hc : c < A.2.2.2.length) : mR (offM σ st p A.2.2.2.length c) st p (A.1, A.2.1, A.2.2.1, A.2.2.2.eraseIdx c) := by
  obtain ⟨a1, a2, a3, a4, a5, a6, a7⟩ := h
  have hl : (A.2.2.2.eraseIdx c).length = A.2.2.2.length - 1 := by rw [List.length_eraseIdx, if_pos hc]
  refine ⟨?_, ?_, fun l hl => ?_, ?_, ?_, ?_, fun x hx => a7 x (List.mem_of_mem_eraseIdx hx)⟩
  · rw [offM_at (by omega), if_neg (by omega)]; exact a1
  · rw [offM_at (by omega), if_neg (by omega)]; exact a2
  · rw [offM_ne (by omega)]; exact a3 l hl
  · rw [offM_3 hc]; show _ = nI (A.2.2.2.eraseIdx c).length; rw [hl]
  · show (A.2.2.2.eraseIdx c).length ≤ 8; omega
  · refine (a6.erase hc).congr (fun k hk => ?_)
    rw [hl] at hk
    show offM σ st p A.2.2.2.length c st (40 * p + 8 + k) = _
    rw [offM_at (by omega)]
    by_cases h2 : 4 * c ≤ k ∧ k < 4 * c + 4 * (A.2.2.2.length - 1 - c)
    · rw [if_pos (by omega), pk_cpy_in h2.1 h2.2]
      show σ st _ = σ st _
      congr 1; omega
    · rw [if_neg (by omega), pk_cpy_out (by omega)]
theorem mR_purse {σ : mMem} {st p : Nat} {A : AW} (hst : st ≠ 3) (h : mR σ st p A) (v : Int32) : mR (mup σ st (40 * p) v) st p (v, A.2.1, A.2.2.1, A.2.2.2) := by
  obtain ⟨a1, a2, a3, a4, a5, a6, a7⟩ := h
  exact ⟨mup_self _ _ _ _, (mup_ne2 (by omega)).trans a2, fun l hl => (mup_ne1 (by omega)).trans (a3 l hl), (mup_ne2 (by omega)).trans a4, a5, a6.congr (fun k hk => mup_ne2 (by omega)), a7⟩
theorem mst_y (y : Int32) : mst y = if y < 999999 then y else 999999 := by
  unfold mst
  by_cases h : y < 999999
  · rw [if_pos h, if_pos (Int32.le_of_lt h)]
  · rw [if_neg h]
    by_cases h2 : y ≤ 999999
    · rw [if_pos h2]; exact Int32.le_antisymm h2 (Int32.not_lt.mp h)
    · rw [if_neg h2]
theorem mst_nam (a r : Int32) : mst (a + a * r / 100) = nam a r := mst_y _
theorem mpu_npu (pu inc ask : Int32) : mpu (pu + inc - ask) = npu pu inc ask := by
  unfold mpu npu
  generalize pu + inc - ask = y
  unfold mx0
  by_cases h0 : 0 < y
  · rw [if_pos h0, if_pos (Int32.le_of_lt h0), mst_y]
  · rw [if_neg h0]
    have e3 : (if (0 : Int32) < 999999 then (0 : Int32) else 999999) = 0 := by decide
    rw [e3]
    by_cases h2 : 0 ≤ y
    · have e : y = 0 := Int32.le_antisymm (Int32.not_lt.mp h0) h2
      rw [if_pos h2, e]; decide
    · rw [if_neg h2]
theorem mnc_at (f : Nat → Int32) (b n k : Nat) : mnc f b n (b + 8 + k) = nco (fun i => f (b + 8 + i)) n k := by
  induction n generalizing k with
  | zero => rfl
  | succ n ih =>
    rw [mnc, nco]
    by_cases h : k = 4 * n + 1
    · subst h
      rw [show b + 8 + (4 * n + 1) = b + 8 + 4 * n + 1 by omega, pk_us, pk_us, mst_nam]
      rw [show b + 8 + 4 * n + 1 = b + 8 + (4 * n + 1) by omega, show b + 8 + 4 * n + 2 = b + 8 + (4 * n + 2) by omega, ih, ih]
    · rw [pk_un (by omega), pk_un h, ih]
theorem mak_nask (σ : mMem) (p : Nat) (ld : Nat → Nat) (n : Nat) : mak σ p ld n = nask (fun l => σ 3 (5 * p + l)) ld n := by
  induction n with
  | zero => rfl
  | succ n ih => rw [mak, nask, ih]
theorem mR_night {σ : mMem} {st p : Nat} {A : AW} (hst : st ≠ 3) (h : mR σ st p A) : mR (mrs σ st p A.2.2.2.length (aLd A)) st p (aNight A) := by
  obtain ⟨a1, a2, a3, a4, a5, a6, a7⟩ := h
  have hask : mak σ p (aLd A) A.2.2.2.length = aAsk A.2.2.1 A.2.2.2 0 := by
    rw [mak_nask, ← aAsk_congr (tx := fun l => σ 3 (5 * p + l)) A.2.2.2 0 (fun x hx => a3 _ (a7 x hx))]
    have := nask_aAsk (tx := fun l => σ 3 (5 * p + l)) (ld := aLd A) A.2.2.2 0 (fun c x hx => by rw [Nat.zero_add]; exact aLd_at hx)
    rw [Nat.zero_add] at this
    exact this.symm
  refine ⟨?_, ?_, fun l hl => ?_, ?_, ?_, ?_, ?_⟩
  · unfold mrs
    rw [mup_self, hask, a1, a2, mpu_npu]; rfl
  · rw [mrs_st (by omega), mnc_ne (by omega)]; exact a2
  · rw [mrs_ne (by omega)]; exact a3 l hl
  · rw [mrs_st (by omega), mnc_ne (by omega)]; show _ = nI (A.2.2.2.map nCoat).length; rw [List.length_map]; exact a4
  · show (A.2.2.2.map nCoat).length ≤ 8; rw [List.length_map]; exact a5
  · refine (a6.night).congr (fun k hk => ?_)
    show mrs σ st p A.2.2.2.length (aLd A) st (40 * p + 8 + k) = _
    rw [mrs_st (by omega), mnc_at]
  · intro x hx
    obtain ⟨y, hy, rfl⟩ := List.mem_map.mp hx
    exact a7 y hy
def kpM (σ τ : mMem) : Prop := ∀ a b, a ≠ 2 → ¬ (a = 0 ∧ b = 19) → τ a b = σ a b
def mS (σ τ : mMem) (p : Nat) (C : AW) (dn : Nat) (pd : Int32) (n : Nat) : Prop := mR τ 2 p C ∧ C.2.2.2.length = n - dn ∧ τ 0 19 = pd ∧ kpM σ τ
theorem mS_n {σ τ : mMem} {p : Nat} {C : AW} {dn : Nat} {pd : Int32} {n : Nat} (h : mS σ τ p C dn pd n) : τ 2 (40 * p + 3) = nI (n - dn) := h.1.2.2.2.1.trans (congrArg nI h.2.1)
theorem mS_o {σ τ : mMem} {p : Nat} {C : AW} {dn a b : Nat} {pd : Int32} {n : Nat} (h : mS σ τ p C dn pd n) (ha : a ≠ 2 ∧ a ≠ 0) : τ a b = σ a b := h.2.2.2 a b ha.1 (fun q => ha.2 q.1)
theorem mS_ld {σ τ : mMem} {p : Nat} {C : AW} {dn : Nat} {pd : Int32} {n : Nat} (h : mS σ τ p C dn pd n) : ∀ c, c < n - dn → τ 2 (40 * p + 8 + 4 * c) = nI (aLd C c) ∧ aLd C c < 5 := by
  rw [← h.2.1]; exact mR_ld h.1
theorem mS_amt {σ τ : mMem} {p : Nat} {C : AW} {dn e : Nat} {pd : Int32} {n : Nat} (h : mS σ τ p C dn pd n) (he : e < n - dn) : τ 2 (40 * p + 8 + 4 * e + 1) = (C.2.2.2.getD e (0, 0, 0, 0)).2.1 := by
  have hc : e < C.2.2.2.length := by rw [h.2.1]; exact he
  have e1 : C.2.2.2[e]? = some (C.2.2.2.getD e (0, 0, 0, 0)) := by
    rw [List.getD_eq_getElem?_getD, List.getElem?_eq_getElem hc]; rfl
  exact (h.1.2.2.2.2.2.1 e _ e1).2.1
def cyF (σ : mMem) (b : Nat) : Nat → mMem
  | 0 => σ
  | k + 1 => mup (cyF σ b k) 2 (b + k) (cyF σ b k 12 k)
theorem cyF_ne {σ : mMem} {b k i j : Nat} (h : i ≠ 2) : cyF σ b k i j = σ i j := by
  induction k with
  | zero => rfl
  | succ k ih => rw [cyF, mup_ne1 h, ih]
theorem cyF_at {σ : mMem} {b k j : Nat} (h : j < k) : cyF σ b k 2 (b + j) = σ 12 j := by
  induction k with
  | zero => omega
  | succ k ih =>
    rw [cyF]
    by_cases e : j = k
    · subst e; rw [mup_self, cyF_ne (by decide)]
    · rw [mup_ne2 (by omega), ih (by omega)]
theorem mS_start {σ : mMem} {p n k : Nat} {A : AW} (h : sR σ p A) (hn : A.2.2.2.length = n) (hk : k = 40) : mS σ (mup (cyF σ (40 * p) k) 0 19 0) p A 0 0 n := by
  subst hk
  obtain ⟨a1, a2, a3, a4, a5, a6, a7⟩ := h
  refine ⟨⟨?_, ?_, fun l hl => ?_, ?_, a5, a6.congr (fun k hk => ?_), a7⟩, hn, mup_self _ _ _ _, fun a b q1 q2 => ?_⟩
  · rw [mup_ne1 (by decide)]; exact (cyF_at (j := 0) (by omega)).trans a1
  · rw [mup_ne1 (by decide), cyF_at (by omega)]; exact a2
  · rw [mup_ne1 (by decide), cyF_ne (by decide)]; exact a3 l hl
  · rw [mup_ne1 (by decide), cyF_at (by omega)]; exact a4
  · show mup _ 0 19 0 2 (40 * p + 8 + k) = σ 12 (8 + k)
    rw [mup_ne1 (by decide), Nat.add_assoc, cyF_at (by omega)]
  · rw [mup_at, if_neg q2, cyF_ne q1]
theorem mS_night {σ τ : mMem} {p : Nat} {C : AW} {dn : Nat} {pd : Int32} {n : Nat} (h : mS σ τ p C dn pd n) : mS σ (mrs τ 2 p (n - dn) (aLd C)) p (aNight C) dn pd n := by
  obtain ⟨h1, h2, h3, h4⟩ := h
  refine ⟨by rw [← h2]; exact mR_night (by decide) h1, by show (C.2.2.2.map nCoat).length = _; rw [List.length_map]; exact h2, ?_, fun a b q1 q2 => ?_⟩
  · rw [mrs_ne (by decide)]; exact h3
  · rw [mrs_ne q1]; exact h4 a b q1 q2
theorem mS_pay {σ τ : mMem} {p : Nat} {C : AW} {dn e : Nat} {pd : Int32} {n : Nat} (h : mS σ τ p C dn pd n) (he : e < n - dn) : mS σ (offM (mup (mup τ 2 (40 * p) (τ 2 (40 * p) - τ 2 (40 * p + 8 + 4 * e + 1))) 0 19 (τ 0 19 + τ 2 (40 * p + 8 + 4 * e + 1))) 2 p (n - dn) e) p (aPay C e (C.2.2.2.getD e (0, 0, 0, 0))) (dn + 1) (pd + (C.2.2.2.getD e (0, 0, 0, 0)).2.1) n := by
  have ha := mS_amt h he
  obtain ⟨h1, h2, h3, h4⟩ := h
  have hc : e < C.2.2.2.length := by rw [h2]; exact he
  have h5 := mR_off (c := e) (by decide) (mR_keep (τ := mup (mup τ 2 (40 * p) (τ 2 (40 * p) - τ 2 (40 * p + 8 + 4 * e + 1))) 0 19 (τ 0 19 + τ 2 (40 * p + 8 + 4 * e + 1))) (mR_purse (by decide) h1 (τ 2 (40 * p) - τ 2 (40 * p + 8 + 4 * e + 1))) (fun b _ _ => mup_ne1 (by decide)) (fun b => mup_ne1 (by decide))) hc
  rw [h2] at h5
  refine ⟨?_, ?_, ?_, fun a b q1 q2 => ?_⟩
  · rw [ha, h1.1] at h5 ⊢; exact h5
  · show (C.2.2.2.eraseIdx e).length = _
    rw [List.length_eraseIdx, if_pos hc, h2]; omega
  · rw [offM_ne (by decide), mup_self, h3, ha]
  · rw [offM_ne q1, mup_at, if_neg q2, mup_ne1 q1]; exact h4 a b q1 q2
theorem nev_nI {d : Nat} (h : d < 2 ^ 31) : nev (nI d) = nI d := if_pos (nI_pos' h)
set_option maxHeartbeats 4000000 in
set_option maxRecDepth 100000 in
theorem mt_X8_freeBy (l : Launch) (D : va_G) (dA : Nat → ClassId) (st : Nat) (hst : st = 1 ∨ st = 2) (ad : Nat → Nat) (N : Nat) (hA : yA ad N) (σ : mMem) (x : Int32) (p : Nat) (hx0 : x = nI p) (hp5 : p < 5) (y : Int32) (n : Nat) (hy0 : y = nI n) (hn6 : n ≤ 6) (A : AW) (hs : sR σ p A) (hn : A.2.2.2.length = n) (o : Nat → Nat) (ho : ∀ k, k < n → σ 10 k = nI (o k) ∧ o k < 6) (hok : okO o n) : Met l yX8_freeBy (ws_ yX8_freeBy cX8_freeBy 9 (some .int)) ({ frames := 2, cells := 0, slots := 0, locals := 45 }) (va_Pc [.ref (ad 0), .int x, .int y] (mPre D dA (shM st) ad N σ)) (va_Qi (fun (r : Int32) (u : mMem × Nat) => r = nev (evO o A).1 ∧ u.1 0 19 = (evO o A).2 ∧ kpM σ u.1 ∧ u.2 = 2) (mBM D dA ad N) (mAd ad N)) 0 0 (mAd ad N) := by
  refine Met.ofW (cc := cX8_freeBy) (maxL := 9) (ret := (some .int)) (by decide) rfl ?_
  intro pp ee ss mm args below meth cd s₁ B hml hv
  obtain ⟨rfl, hP, hE⟩ := hv
  have hx := B.exec
  have hb := B.bytes
  have hr := B.returns
  have hts := atoms_spec (ws := ws_ yX8_freeBy cX8_freeBy 9 (some .int)) B.pre
  have hts : ∀ w ∈ lw_all, w.before _ ss = true := fun w h => hts w (List.mem_cons_of_mem _ h)
  have hown : ss.vm.findClass RX8 = some mm.cls := findClass_of_methodNamed B.named
  have hlocks := B.notSynchronized
  have hD := hA.2.self
  have hS : va_S (mAd ad N) ss.heap ss.heap [] := va_S.rf
  have hNN := hA.1
  have hl := lv_entry ([.ref (ad 0), .int x, .int y]) (n := 9) (Nat.le_of_ble_eq_true rfl)
  rw [lg_entry_eq]
  generalize (lg_sl ([.ref (ad 0), .int x, .int y]) ++ List.replicate (9 - (lg_sl ([.ref (ad 0), .int x, .int y])).length) Slot.unset).toArray = ls at hl ⊢
  have hl : lv_has ls 9 [(0, .ref (ad 0)), (1, .int x), (2, .int y)] := hl
  refine lv_bipush (v := 40) hx hb dX8_freeBy_0 (by decide) ?_
  refine lv_iload_n hx hb dX8_freeBy_2 rfl (lv_at hl 1 rfl) ?_
  refine lv_imul hx hb dX8_freeBy_3 ?_
  refine lv_rwi (mi_mul rfl hx0) ?_
  refine lv_istore_n (lv' := [(3, .int (nI (40 * p))), (0, .ref (ad 0)), (1, .int x), (2, .int y)]) hx hb dX8_freeBy_4 rfl hl (by decide) rfl (fun ls hl => ?_)
  refine lv_iconst (v := 0) hx hb dX8_freeBy_5 (by decide) ?_
  refine lv_istore (lv' := [(4, .int 0), (3, .int (nI (40 * p))), (0, .ref (ad 0)), (1, .int x), (2, .int y)]) hx hb dX8_freeBy_6 hl (by decide) rfl (fun ls hl => ?_)
  have lp8 : ∀ (fu : Nat) (k : Nat) (_ : k ≤ 40) (_ : 40 - k < fu) (H : Heap) (locs : List Loc) (_ : va_P D xCl (mW dA (shM st) ad N (cyF σ (40 * p) k)) H) (_ : va_S (mAd ad N) ss.heap H locs) (ls : Array Slot) (_ : lv_has ls 9 [(4, .int (nI k)), (3, .int (nI (40 * p))), (0, .ref (ad 0)), (1, .int x), (2, .int y)]), W pp l ee (headSpec (ws_ yX8_freeBy cX8_freeBy 9 (some .int)) ({ frames := 2, cells := 0, slots := 0, locals := 45 })).room ss mm ([.ref (ad 0), .int x, .int y] : List Value).toArray below meth cd H locs 0 0 (MQ below (va_Qi (fun (r : Int32) (u : mMem × Nat) => r = nev (evO o A).1 ∧ u.1 0 19 = (evO o A).2 ∧ kpM σ u.1 ∧ u.2 = 2) (mBM D dA ad N) (mAd ad N)) ([.ref (ad 0), .int x, .int y] : List Value).toArray ss 0 0 (mAd ad N)) (F0 mm 8 ls []) := by
    intro fu
    induction fu with
    | zero => intro k hk hfu; exact absurd hfu (Nat.not_lt_zero _)
    | succ fu ih8 =>
      intro k hk hfu H locs hP hS ls hl
      refine lv_iload hx hb dX8_freeBy_8 (lv_at hl 0 rfl) ?_
      refine lv_bipush (v := 40) hx hb dX8_freeBy_10 (by decide) ?_
      refine lv_icmp_ge (tgt := 37) hx hb dX8_freeBy_12 (by decide) (fun c_1 => ?_) (fun c_1 => ?_)
      · have nc_1 : 40 ≤ k := mi_le rfl rfl (by omega) (by omega) c_1
        refine lv_aload_n hx hb dX8_freeBy_37 rfl (lv_at hl 2 rfl) ?_
        refine lv_aload_n hx hb dX8_freeBy_38 rfl (lv_at hl 2 rfl) ?_
        refine mg_ref hx hb hts in_X8 hown hE hP 0 (yl_n hA (by decide)) rfl rfl 2 rfl (by decide) (hts _ q766) (fun _ h9 => h9) dX8_freeBy_39 ?_
        refine mg_state (j := 2) hx hb hts hown hE hD hP hS hA.1 (hts _ q767) dX8_freeBy_42 (fun H locs hP hS => ?_)
        refine lv_aload_n hx hb dX8_freeBy_45 rfl (lv_at hl 2 rfl) ?_
        refine lv_iconst (v := 0) hx hb dX8_freeBy_46 (by decide) ?_
        refine mg_put (v := 0) (ty := .int) hx hb hts in_X8 tyX8 tyX8_ok nmX8 hown hE hD hP hS 0 (yl_n hA (by decide)) rfl rfl 19 rfl (by decide) (hts _ q783) (fun _ h9 => h9) rfl (by decide +kernel) rfl rfl dX8_freeBy_47 (fun H locs hP hS => ?_)
        refine lv_iconst (v := 0) hx hb dX8_freeBy_50 (by decide) ?_
        refine lv_istore (lv' := [(4, .int 0), (3, .int (nI (40 * p))), (0, .ref (ad 0)), (1, .int x), (2, .int y)]) hx hb dX8_freeBy_51 hl (by decide) rfl (fun ls hl => ?_)
        refine lv_iconst (v := 0) hx hb dX8_freeBy_53 (by decide) ?_
        refine lv_istore (lv' := [(5, .int 0), (4, .int 0), (3, .int (nI (40 * p))), (0, .ref (ad 0)), (1, .int x), (2, .int y)]) hx hb dX8_freeBy_54 hl (by decide) rfl (fun ls hl => ?_)
        have lp56 : ∀ (fu : Nat) (d : Nat) (dn : Nat) (τ : mMem) (C : AW) (pd : Int32) (_ : d ≤ 361) (_ : dn ≤ n) (_ : mS σ τ p C dn pd n) (_ : evO o A = dayR o n (361 - d) d (C, dn, pd)) (_ : 361 - d < fu) (H : Heap) (locs : List Loc) (_ : va_P D xCl (mW dA (shM 2) ad N τ) H) (_ : va_S (mAd ad N) ss.heap H locs) (ls : Array Slot) (_ : lv_has ls 9 [(5, .int (nI d)), (4, .int (nI dn)), (3, .int (nI (40 * p))), (0, .ref (ad 0)), (1, .int x), (2, .int y)]), W pp l ee (headSpec (ws_ yX8_freeBy cX8_freeBy 9 (some .int)) ({ frames := 2, cells := 0, slots := 0, locals := 45 })).room ss mm ([.ref (ad 0), .int x, .int y] : List Value).toArray below meth cd H locs 0 0 (MQ below (va_Qi (fun (r : Int32) (u : mMem × Nat) => r = nev (evO o A).1 ∧ u.1 0 19 = (evO o A).2 ∧ kpM σ u.1 ∧ u.2 = 2) (mBM D dA ad N) (mAd ad N)) ([.ref (ad 0), .int x, .int y] : List Value).toArray ss 0 0 (mAd ad N)) (F0 mm 56 ls []) := by
          intro fu
          induction fu with
          | zero => intro d dn τ C pd hd hdn hQ hev hfu; exact absurd hfu (Nat.not_lt_zero _)
          | succ fu ih56 =>
            intro d dn τ C pd hd hdn hQ hev hfu H locs hP hS ls hl
            refine lv_iload hx hb dX8_freeBy_56 (lv_at hl 0 rfl) ?_
            refine lv_sipush (v := 360) hx hb dX8_freeBy_58 (by decide) ?_
            refine lv_icmp_gt (tgt := 243) hx hb dX8_freeBy_61 (by decide) (fun c_2 => ?_) (fun c_2 => ?_)
            · have nc_2 : 360 < d := mi_lt rfl rfl (by omega) (by omega) c_2
              refine lv_sipush (v := 361) hx hb dX8_freeBy_243 (by decide) ?_
              exact W.iret (v := 361) hx hb hr (fun t ht hW => ⟨⟨_, (τ, 2), rfl, ⟨by rw [hev, show 361 - d = 0 by omega]; rfl, by rw [hev, show 361 - d = 0 by omega]; exact hQ.2.2.1, hQ.2.2.2, rfl⟩, mBM.of ht hP⟩, hS.F ht⟩) hS.2.2 dX8_freeBy_246
            · have nc_2 : d ≤ 360 := mi_nlt rfl rfl (by omega) (by omega) c_2
              refine lv_iload hx hb dX8_freeBy_64 (lv_at hl 1 rfl) ?_
              refine lv_iload_n hx hb dX8_freeBy_66 rfl (lv_at hl 5 rfl) ?_
              refine lv_icmp_ge (tgt := 74) hx hb dX8_freeBy_67 (by decide) (fun c_3 => ?_) (fun c_3 => ?_)
              · have nc_3 : n ≤ dn := mi_le hy0 rfl (by omega) (by omega) c_3
                refine lv_iconst (v := 0) hx hb dX8_freeBy_74 (by decide) ?_
                refine lv_istore (lv' := [(6, .int 0), (5, .int (nI d)), (4, .int (nI dn)), (3, .int (nI (40 * p))), (0, .ref (ad 0)), (1, .int x), (2, .int y)]) hx hb dX8_freeBy_75 hl (by decide) rfl (fun ls hl => ?_)
                refine lv_iload hx hb dX8_freeBy_77 (lv_at hl 0 rfl) ?_
                refine lv_if_eq (tgt := 223) hx hb dX8_freeBy_79 (by decide) (fun c_4 => ?_) (fun c_4 => ?_)
                · skip
                  have hQ3 := hQ
                  have hfin : payR o n (n - dn) (C, dn, pd) = (C, dn, pd) := payR_end (by omega)
                  refine lv_iload hx hb dX8_freeBy_223 (lv_at hl 2 rfl) ?_
                  refine lv_iload_n hx hb dX8_freeBy_225 rfl (lv_at hl 6 rfl) ?_
                  refine lv_icmp_ne (tgt := 232) hx hb dX8_freeBy_226 (by decide) (fun c_5 => ?_) (fun c_5 => ?_)
                  · have nc_5 : dn ≠ n := mi_ne rfl hy0 (by omega) (by omega) c_5
                    omega
                  · have nc_5 : dn = n := mi_eq rfl hy0 (by omega) (by omega) c_5
                    refine lv_iload hx hb dX8_freeBy_229 (lv_at hl 1 rfl) ?_
                    exact W.iret (v := (nI d)) hx hb hr (fun t ht hW => ⟨⟨_, (τ, 2), rfl, ⟨by rw [hev, show 361 - d = (360 - d) + 1 by omega, dayR, hfin, if_pos (by dsimp only; omega)]; exact (nev_nI (by omega)).symm, by rw [hev, show 361 - d = (360 - d) + 1 by omega, dayR, hfin, if_pos (by dsimp only; omega)]; exact hQ3.2.2.1, hQ3.2.2.2, rfl⟩, mBM.of ht hP⟩, hS.F ht⟩) hS.2.2 dX8_freeBy_231
                · skip
                  exact absurd c_4 (by decide)
              · have nc_3 : dn < n := mi_nle hy0 rfl (by omega) (by omega) c_3
                refine lv_iconst (v := 1) hx hb dX8_freeBy_70 (by decide) ?_
                refine lv_goto (tgt := 75) hx hb dX8_freeBy_71 (by decide) ?_
                refine lv_istore (lv' := [(6, .int 1), (5, .int (nI d)), (4, .int (nI dn)), (3, .int (nI (40 * p))), (0, .ref (ad 0)), (1, .int x), (2, .int y)]) hx hb dX8_freeBy_75 hl (by decide) rfl (fun ls hl => ?_)
                have lp77 : ∀ (fu : Nat) (dn2 : Nat) (τ2 : mMem) (C2 : AW) (pd2 : Int32) (_ : dn2 < n) (_ : mS σ τ2 p C2 dn2 pd2 n) (_ : payR o n (n - dn) (C, dn, pd) = payR o n (n - dn2) (C2, dn2, pd2)) (_ : n - dn2 < fu) (H : Heap) (locs : List Loc) (_ : va_P D xCl (mW dA (shM 2) ad N τ2) H) (_ : va_S (mAd ad N) ss.heap H locs) (ls : Array Slot) (_ : lv_has ls 9 [(6, .int 1), (5, .int (nI d)), (4, .int (nI dn2)), (3, .int (nI (40 * p))), (0, .ref (ad 0)), (1, .int x), (2, .int y)]), W pp l ee (headSpec (ws_ yX8_freeBy cX8_freeBy 9 (some .int)) ({ frames := 2, cells := 0, slots := 0, locals := 45 })).room ss mm ([.ref (ad 0), .int x, .int y] : List Value).toArray below meth cd H locs 0 0 (MQ below (va_Qi (fun (r : Int32) (u : mMem × Nat) => r = nev (evO o A).1 ∧ u.1 0 19 = (evO o A).2 ∧ kpM σ u.1 ∧ u.2 = 2) (mBM D dA ad N) (mAd ad N)) ([.ref (ad 0), .int x, .int y] : List Value).toArray ss 0 0 (mAd ad N)) (F0 mm 77 ls []) := by
                  intro fu
                  induction fu with
                  | zero => intro dn2 τ2 C2 pd2 hdn2 hQ2 hpay hfu; exact absurd hfu (Nat.not_lt_zero _)
                  | succ fu ih77 =>
                    intro dn2 τ2 C2 pd2 hdn2 hQ2 hpay hfu H locs hP hS ls hl
                    refine lv_iload hx hb dX8_freeBy_77 (lv_at hl 0 rfl) ?_
                    refine lv_if_eq (tgt := 223) hx hb dX8_freeBy_79 (by decide) (fun c_6 => ?_) (fun c_6 => ?_)
                    · skip
                      exact absurd c_6 (by decide)
                    · skip
                      obtain ⟨ho1, ho2, ho3⟩ := hok dn2 (by omega)
                      refine lv_aload_n hx hb dX8_freeBy_82 rfl (lv_at hl 4 rfl) ?_
                      refine mg_ref hx hb hts in_X8 hown hE hP 0 (yl_n hA (by decide)) rfl rfl 17 rfl (by decide) (hts _ q781) (fun _ h9 => h9) dX8_freeBy_83 ?_
                      refine lv_iload hx hb dX8_freeBy_86 (lv_at hl 2 rfl) ?_
                      refine mg_ild hx hb hE hP 10 (yl_n hA (by decide)) rfl dn2 (by omega) rfl (by decide) dX8_freeBy_88 ?_
                      refine lv_rwi ((mS_o hQ2 (by decide)).trans (ho dn2 (by omega)).1) ?_
                      refine lv_istore (lv' := [(7, .int (nI (o dn2))), (6, .int 1), (5, .int (nI d)), (4, .int (nI dn2)), (3, .int (nI (40 * p))), (0, .ref (ad 0)), (1, .int x), (2, .int y)]) hx hb dX8_freeBy_89 hl (by decide) rfl (fun ls hl => ?_)
                      refine lv_iconst (v := 0) hx hb dX8_freeBy_91 (by decide) ?_
                      refine lv_istore (lv' := [(8, .int 0), (7, .int (nI (o dn2))), (6, .int 1), (5, .int (nI d)), (4, .int (nI dn2)), (3, .int (nI (40 * p))), (0, .ref (ad 0)), (1, .int x), (2, .int y)]) hx hb dX8_freeBy_92 hl (by decide) rfl (fun ls hl => ?_)
                      have lp94 : ∀ (fu : Nat) (k : Nat) (e : Nat) (_ : k ≤ dn2) (_ : e = o dn2 - cntO o (o dn2) k) (_ : dn2 - k < fu) (ls : Array Slot) (_ : lv_has ls 9 [(8, .int (nI k)), (7, .int (nI e)), (6, .int 1), (5, .int (nI d)), (4, .int (nI dn2)), (3, .int (nI (40 * p))), (0, .ref (ad 0)), (1, .int x), (2, .int y)]), W pp l ee (headSpec (ws_ yX8_freeBy cX8_freeBy 9 (some .int)) ({ frames := 2, cells := 0, slots := 0, locals := 45 })).room ss mm ([.ref (ad 0), .int x, .int y] : List Value).toArray below meth cd H locs 0 0 (MQ below (va_Qi (fun (r : Int32) (u : mMem × Nat) => r = nev (evO o A).1 ∧ u.1 0 19 = (evO o A).2 ∧ kpM σ u.1 ∧ u.2 = 2) (mBM D dA ad N) (mAd ad N)) ([.ref (ad 0), .int x, .int y] : List Value).toArray ss 0 0 (mAd ad N)) (F0 mm 94 ls []) := by
                        intro fu
                        induction fu with
                        | zero => intro k e hk he hfu; exact absurd hfu (Nat.not_lt_zero _)
                        | succ fu ih94 =>
                          intro k e hk he hfu ls hl
                          refine lv_iload hx hb dX8_freeBy_94 (lv_at hl 0 rfl) ?_
                          refine lv_iload hx hb dX8_freeBy_96 (lv_at hl 4 rfl) ?_
                          refine lv_icmp_ge (tgt := 134) hx hb dX8_freeBy_98 (by decide) (fun c_7 => ?_) (fun c_7 => ?_)
                          · have nc_7 : dn2 ≤ k := mi_le rfl rfl (by omega) (by omega) c_7
                            have hpos : posO o dn2 = e := by unfold posO; rw [he, show k = dn2 by omega]
                            have hamt := mS_amt hQ2 (show e < n - dn2 by omega)
                            refine lv_aload_n hx hb dX8_freeBy_134 rfl (lv_at hl 6 rfl) ?_
                            refine mg_ref hx hb hts in_X8 hown hE hP 0 (yl_n hA (by decide)) rfl rfl 2 rfl (by decide) (hts _ q766) (fun _ h9 => h9) dX8_freeBy_135 ?_
                            refine lv_iload_n hx hb dX8_freeBy_138 rfl (lv_at hl 5 rfl) ?_
                            refine lv_bipush (v := 8) hx hb dX8_freeBy_139 (by decide) ?_
                            refine lv_iadd hx hb dX8_freeBy_141 ?_
                            refine lv_iconst (v := 4) hx hb dX8_freeBy_142 (by decide) ?_
                            refine lv_iload hx hb dX8_freeBy_143 (lv_at hl 1 rfl) ?_
                            refine lv_imul hx hb dX8_freeBy_145 ?_
                            refine lv_iadd hx hb dX8_freeBy_146 ?_
                            refine lv_iconst (v := 1) hx hb dX8_freeBy_147 (by decide) ?_
                            refine lv_iadd hx hb dX8_freeBy_148 ?_
                            refine mg_ild hx hb hE hP 2 (yl_n hA (by decide)) rfl (40 * p + 8 + 4 * e + 1) (by omega) (mi_add (mi_add (mi_add rfl rfl) (mi_mul rfl rfl)) rfl) (by decide) dX8_freeBy_149 ?_
                            refine lv_istore (lv' := [(8, .int (τ2 2 (40 * p + 8 + 4 * e + 1))), (7, .int (nI e)), (6, .int 1), (5, .int (nI d)), (4, .int (nI dn2)), (3, .int (nI (40 * p))), (0, .ref (ad 0)), (1, .int x), (2, .int y)]) hx hb dX8_freeBy_150 hl (by decide) rfl (fun ls hl => ?_)
                            refine lv_aload_n hx hb dX8_freeBy_152 rfl (lv_at hl 6 rfl) ?_
                            refine mg_ref hx hb hts in_X8 hown hE hP 0 (yl_n hA (by decide)) rfl rfl 2 rfl (by decide) (hts _ q766) (fun _ h9 => h9) dX8_freeBy_153 ?_
                            refine lv_iload_n hx hb dX8_freeBy_156 rfl (lv_at hl 5 rfl) ?_
                            refine mg_ild hx hb hE hP 2 (yl_n hA (by decide)) rfl (40 * p) (by omega) rfl (by decide) dX8_freeBy_157 ?_
                            refine lv_iload hx hb dX8_freeBy_158 (lv_at hl 0 rfl) ?_
                            refine lv_icmp_lt (tgt := 167) hx hb dX8_freeBy_160 (by decide) (fun c_8 => ?_) (fun c_8 => ?_)
                            · skip
                              have hno := hpay.trans (payR_no (by rw [hpos, ← hamt, ← hQ2.1.1]; exact Int32.not_le.mpr c_8))
                              refine lv_iconst (v := 0) hx hb dX8_freeBy_167 (by decide) ?_
                              refine lv_istore (lv' := [(6, .int 0), (8, .int (τ2 2 (40 * p + 8 + 4 * e + 1))), (7, .int (nI e)), (5, .int (nI d)), (4, .int (nI dn2)), (3, .int (nI (40 * p))), (0, .ref (ad 0)), (1, .int x), (2, .int y)]) hx hb dX8_freeBy_168 hl (by decide) rfl (fun ls hl => ?_)
                              refine lv_iload hx hb dX8_freeBy_170 (lv_at hl 0 rfl) ?_
                              refine lv_if_eq (tgt := 220) hx hb dX8_freeBy_172 (by decide) (fun c_9 => ?_) (fun c_9 => ?_)
                              · skip
                                refine lv_goto (tgt := 77) hx hb dX8_freeBy_220 (by decide) ?_
                                refine lv_iload hx hb dX8_freeBy_77 (lv_at hl 0 rfl) ?_
                                refine lv_if_eq (tgt := 223) hx hb dX8_freeBy_79 (by decide) (fun c_10 => ?_) (fun c_10 => ?_)
                                · skip
                                  have hQ3 := hQ2
                                  have hfin := hno
                                  refine lv_iload hx hb dX8_freeBy_223 (lv_at hl 4 rfl) ?_
                                  refine lv_iload_n hx hb dX8_freeBy_225 rfl (lv_at hl 8 rfl) ?_
                                  refine lv_icmp_ne (tgt := 232) hx hb dX8_freeBy_226 (by decide) (fun c_11 => ?_) (fun c_11 => ?_)
                                  · have nc_11 : dn2 ≠ n := mi_ne rfl hy0 (by omega) (by omega) c_11
                                    refine lv_aload_n hx hb dX8_freeBy_232 rfl (lv_at hl 6 rfl) ?_
                                    refine lv_iload_n hx hb dX8_freeBy_233 rfl (lv_at hl 7 rfl) ?_
                                    refine va_callv (va_runV (As := [.int x]) (rest := []) ⟨hx, hb, hml, hown, hts⟩ (mt_X8_rests l D dA 2 (Or.inr rfl) ad N hA τ2 x p hx0 (by omega) (n - dn2) (mS_n hQ2) (by omega) (aLd C2) (mS_ld hQ2)) (cwV 1 hts (lw_V q945 q947 qs28 q55 q948) rfl rfl rfl (by decide +kernel) ⟨Nat.le_of_ble_eq_true rfl, Nat.le_of_ble_eq_true rfl⟩) ⟨mPre.blind, m_recv hE hP 0 (yl_n hA (by decide)) rfl rfl, mPre.at hE hP⟩ rfl rfl hl.1 rfl (lv_room (Nat.le_of_ble_eq_true rfl)) dX8_freeBy_234 ⟨Nat.le_of_ble_eq_true rfl, Nat.le_of_ble_eq_true rfl⟩) hS (fun q _ h => h) (fun q h => h) (fun ur_12 tr_12 H locs ht h0 hr_12 hB h1 h2 hS => ?_)
                                    subst hr_12
                                    have hP := mB.get ht hB
                                    refine lv_iinc (v := (nI (d + 1))) (lv' := [(5, .int (nI (d + 1))), (6, .int 0), (8, .int (τ2 2 (40 * p + 8 + 4 * e + 1))), (7, .int (nI e)), (4, .int (nI dn2)), (3, .int (nI (40 * p))), (0, .ref (ad 0)), (1, .int x), (2, .int y)]) hx hb dX8_freeBy_237 hl (k := 3) rfl (mi_add rfl rfl) (by decide) rfl (fun ls hl => ?_)
                                    refine lv_goto (tgt := 56) hx hb dX8_freeBy_240 (by decide) ?_
                                    exact ih56  (d + 1) dn2 (mrs τ2 2 p (n - dn2) (aLd C2)) (aNight C2) pd2 (by omega) (by omega) (mS_night hQ3) (by rw [hev, show 361 - d = (361 - (d + 1)) + 1 by omega, dayR, hfin, if_neg (by omega)] <;> rfl) (by omega) _ _ hP hS ls (lv_sub hl [0, 4, 5, 6, 7, 8] rfl)
                                  · have nc_11 : dn2 = n := mi_eq rfl hy0 (by omega) (by omega) c_11
                                    refine lv_iload hx hb dX8_freeBy_229 (lv_at hl 3 rfl) ?_
                                    exact W.iret (v := (nI d)) hx hb hr (fun t ht hW => ⟨⟨_, (τ2, 2), rfl, ⟨by rw [hev, show 361 - d = (360 - d) + 1 by omega, dayR, hfin, if_pos (by dsimp only; omega)]; exact (nev_nI (by omega)).symm, by rw [hev, show 361 - d = (360 - d) + 1 by omega, dayR, hfin, if_pos (by dsimp only; omega)]; exact hQ3.2.2.1, hQ3.2.2.2, rfl⟩, mBM.of ht hP⟩, hS.F ht⟩) hS.2.2 dX8_freeBy_231
                                · skip
                                  exact absurd c_10 (by decide)
                              · skip
                                exact absurd c_9 (by decide)
                            · skip
                              have hpay1 := hpay.trans (payR_go (by omega) (by rw [hpos, ← hamt, ← hQ2.1.1]; exact Int32.not_lt.mp c_8))
                              rw [hpos] at hpay1
                              refine lv_iconst (v := 1) hx hb dX8_freeBy_163 (by decide) ?_
                              refine lv_goto (tgt := 168) hx hb dX8_freeBy_164 (by decide) ?_
                              refine lv_istore (lv' := [(6, .int 1), (8, .int (τ2 2 (40 * p + 8 + 4 * e + 1))), (7, .int (nI e)), (5, .int (nI d)), (4, .int (nI dn2)), (3, .int (nI (40 * p))), (0, .ref (ad 0)), (1, .int x), (2, .int y)]) hx hb dX8_freeBy_168 hl (by decide) rfl (fun ls hl => ?_)
                              refine lv_iload hx hb dX8_freeBy_170 (lv_at hl 0 rfl) ?_
                              refine lv_if_eq (tgt := 220) hx hb dX8_freeBy_172 (by decide) (fun c_13 => ?_) (fun c_13 => ?_)
                              · skip
                                exact absurd c_13 (by decide)
                              · skip
                                refine lv_aload_n hx hb dX8_freeBy_175 rfl (lv_at hl 6 rfl) ?_
                                refine mg_ref hx hb hts in_X8 hown hE hP 0 (yl_n hA (by decide)) rfl rfl 2 rfl (by decide) (hts _ q766) (fun _ h9 => h9) dX8_freeBy_176 ?_
                                refine lv_iload_n hx hb dX8_freeBy_179 rfl (lv_at hl 5 rfl) ?_
                                refine lv_dup2_11 hx hb dX8_freeBy_180 rfl rfl ?_
                                refine mg_ild hx hb hE hP 2 (yl_n hA (by decide)) rfl (40 * p) (by omega) rfl (by decide) dX8_freeBy_181 ?_
                                refine lv_iload hx hb dX8_freeBy_182 (lv_at hl 1 rfl) ?_
                                refine lv_isub hx hb dX8_freeBy_184 ?_
                                refine mg_ist (v := (τ2 2 (40 * p) - τ2 2 (40 * p + 8 + 4 * e + 1))) hx hb hE hD hP hS 2 (yl_n hA (by decide)) rfl (40 * p) (by omega) rfl (by decide) dX8_freeBy_185 (fun H locs hP hS => ?_)
                                refine lv_aload_n hx hb dX8_freeBy_186 rfl (lv_at hl 6 rfl) ?_
                                refine lv_dup hx hb dX8_freeBy_187 rfl ?_
                                refine mg_get hx hb hts in_X8 hown hE hP 0 (yl_n hA (by decide)) rfl rfl 19 rfl (by decide) (hts _ q783) (fun _ h9 => h9) dX8_freeBy_188 ?_
                                refine lv_rwi (mup_ne1 (by omega)) ?_
                                refine lv_iload hx hb dX8_freeBy_191 (lv_at hl 1 rfl) ?_
                                refine lv_iadd hx hb dX8_freeBy_193 ?_
                                refine mg_put (v := (τ2 0 19 + τ2 2 (40 * p + 8 + 4 * e + 1))) (ty := .int) hx hb hts in_X8 tyX8 tyX8_ok nmX8 hown hE hD hP hS 0 (yl_n hA (by decide)) rfl rfl 19 rfl (by decide) (hts _ q783) (fun _ h9 => h9) rfl (by decide +kernel) rfl rfl dX8_freeBy_194 (fun H locs hP hS => ?_)
                                refine lv_aload_n hx hb dX8_freeBy_197 rfl (lv_at hl 6 rfl) ?_
                                refine lv_iload_n hx hb dX8_freeBy_198 rfl (lv_at hl 7 rfl) ?_
                                refine lv_iload hx hb dX8_freeBy_199 (lv_at hl 2 rfl) ?_
                                refine va_callv (va_runV (As := [.int x, .int (nI e)]) (rest := []) ⟨hx, hb, hml, hown, hts⟩ (mt_X8_off l D dA 2 (Or.inr rfl) ad N hA (mup (mup τ2 2 (40 * p) (τ2 2 (40 * p) - τ2 2 (40 * p + 8 + 4 * e + 1))) 0 19 (τ2 0 19 + τ2 2 (40 * p + 8 + 4 * e + 1))) x p hx0 (by omega) (nI e) e rfl (n - dn2) (((mup_ne1 (by omega)).trans (mup_ne2 (by omega))).trans (mS_n hQ2)) (by omega) (by omega)) (cwV 2 hts (lw_V q970 q972 qs31 q55 q973) rfl rfl rfl (by decide +kernel) ⟨Nat.le_of_ble_eq_true rfl, Nat.le_of_ble_eq_true rfl⟩) ⟨mPre.blind, m_recv hE hP 0 (yl_n hA (by decide)) rfl rfl, mPre.at hE hP⟩ rfl rfl hl.1 rfl (lv_room (Nat.le_of_ble_eq_true rfl)) dX8_freeBy_201 ⟨Nat.le_of_ble_eq_true rfl, Nat.le_of_ble_eq_true rfl⟩) hS (fun q _ h => h) (fun q h => h) (fun ur_14 tr_14 H locs ht h0 hr_14 hB h1 h2 hS => ?_)
                                subst hr_14
                                have hP := mB.get ht hB
                                refine lv_iinc (v := (nI (dn2 + 1))) (lv' := [(4, .int (nI (dn2 + 1))), (6, .int 1), (8, .int (τ2 2 (40 * p + 8 + 4 * e + 1))), (7, .int (nI e)), (5, .int (nI d)), (3, .int (nI (40 * p))), (0, .ref (ad 0)), (1, .int x), (2, .int y)]) hx hb dX8_freeBy_204 hl (k := 4) rfl (mi_add rfl rfl) (by decide) rfl (fun ls hl => ?_)
                                refine lv_iload hx hb dX8_freeBy_207 (lv_at hl 0 rfl) ?_
                                refine lv_iload_n hx hb dX8_freeBy_209 rfl (lv_at hl 8 rfl) ?_
                                refine lv_icmp_ge (tgt := 217) hx hb dX8_freeBy_210 (by decide) (fun c_15 => ?_) (fun c_15 => ?_)
                                · have nc_15 : n ≤ dn2 + 1 := mi_le hy0 rfl (by omega) (by omega) c_15
                                  refine lv_iconst (v := 0) hx hb dX8_freeBy_217 (by decide) ?_
                                  refine lv_istore (lv' := [(6, .int 0), (4, .int (nI (dn2 + 1))), (8, .int (τ2 2 (40 * p + 8 + 4 * e + 1))), (7, .int (nI e)), (5, .int (nI d)), (3, .int (nI (40 * p))), (0, .ref (ad 0)), (1, .int x), (2, .int y)]) hx hb dX8_freeBy_218 hl (by decide) rfl (fun ls hl => ?_)
                                  refine lv_goto (tgt := 77) hx hb dX8_freeBy_220 (by decide) ?_
                                  refine lv_iload hx hb dX8_freeBy_77 (lv_at hl 0 rfl) ?_
                                  refine lv_if_eq (tgt := 223) hx hb dX8_freeBy_79 (by decide) (fun c_16 => ?_) (fun c_16 => ?_)
                                  · skip
                                    have hQ3 := mS_pay hQ2 (show e < n - dn2 by omega)
                                    have hfin := hpay1.trans (payR_end (by omega))
                                    refine lv_iload hx hb dX8_freeBy_223 (lv_at hl 1 rfl) ?_
                                    refine lv_iload_n hx hb dX8_freeBy_225 rfl (lv_at hl 8 rfl) ?_
                                    refine lv_icmp_ne (tgt := 232) hx hb dX8_freeBy_226 (by decide) (fun c_17 => ?_) (fun c_17 => ?_)
                                    · have nc_17 : dn2 + 1 ≠ n := mi_ne rfl hy0 (by omega) (by omega) c_17
                                      omega
                                    · have nc_17 : dn2 + 1 = n := mi_eq rfl hy0 (by omega) (by omega) c_17
                                      refine lv_iload hx hb dX8_freeBy_229 (lv_at hl 4 rfl) ?_
                                      exact W.iret (v := (nI d)) hx hb hr (fun t ht hW => ⟨⟨_, ((offM (mup (mup τ2 2 (40 * p) (τ2 2 (40 * p) - τ2 2 (40 * p + 8 + 4 * e + 1))) 0 19 (τ2 0 19 + τ2 2 (40 * p + 8 + 4 * e + 1))) 2 p (n - dn2) e), 2), rfl, ⟨by rw [hev, show 361 - d = (360 - d) + 1 by omega, dayR, hfin, if_pos (by dsimp only; omega)]; exact (nev_nI (by omega)).symm, by rw [hev, show 361 - d = (360 - d) + 1 by omega, dayR, hfin, if_pos (by dsimp only; omega)]; exact hQ3.2.2.1, hQ3.2.2.2, rfl⟩, mBM.of ht hP⟩, hS.F ht⟩) hS.2.2 dX8_freeBy_231
                                  · skip
                                    exact absurd c_16 (by decide)
                                · have nc_15 : dn2 + 1 < n := mi_nle hy0 rfl (by omega) (by omega) c_15
                                  refine lv_iconst (v := 1) hx hb dX8_freeBy_213 (by decide) ?_
                                  refine lv_goto (tgt := 218) hx hb dX8_freeBy_214 (by decide) ?_
                                  refine lv_istore (lv' := [(6, .int 1), (4, .int (nI (dn2 + 1))), (8, .int (τ2 2 (40 * p + 8 + 4 * e + 1))), (7, .int (nI e)), (5, .int (nI d)), (3, .int (nI (40 * p))), (0, .ref (ad 0)), (1, .int x), (2, .int y)]) hx hb dX8_freeBy_218 hl (by decide) rfl (fun ls hl => ?_)
                                  refine lv_goto (tgt := 77) hx hb dX8_freeBy_220 (by decide) ?_
                                  exact ih77  (dn2 + 1) (offM (mup (mup τ2 2 (40 * p) (τ2 2 (40 * p) - τ2 2 (40 * p + 8 + 4 * e + 1))) 0 19 (τ2 0 19 + τ2 2 (40 * p + 8 + 4 * e + 1))) 2 p (n - dn2) e) (aPay C2 e (C2.2.2.2.getD e (0, 0, 0, 0))) (pd2 + (C2.2.2.2.getD e (0, 0, 0, 0)).2.1) (by omega) (mS_pay hQ2 (show e < n - dn2 by omega)) hpay1 (by omega) _ _ hP hS ls (lv_sub hl [0, 4, 1, 5, 6, 7, 8] rfl)
                          · have nc_7 : k < dn2 := mi_nle rfl rfl (by omega) (by omega) c_7
                            have hok1 := (hok k (by omega)).1
                            have hck := Nat.le_trans (cntO_le (ord := o) (c := o dn2) (show k + 1 ≤ dn2 by omega)) ho2
                            refine lv_iload hx hb dX8_freeBy_101 (lv_at hl 1 rfl) ?_
                            refine lv_aload_n hx hb dX8_freeBy_103 rfl (lv_at hl 6 rfl) ?_
                            refine mg_ref hx hb hts in_X8 hown hE hP 0 (yl_n hA (by decide)) rfl rfl 17 rfl (by decide) (hts _ q781) (fun _ h9 => h9) dX8_freeBy_104 ?_
                            refine lv_iload hx hb dX8_freeBy_107 (lv_at hl 0 rfl) ?_
                            refine mg_ild hx hb hE hP 10 (yl_n hA (by decide)) rfl k (by omega) rfl (by decide) dX8_freeBy_109 ?_
                            refine lv_aload_n hx hb dX8_freeBy_110 rfl (lv_at hl 6 rfl) ?_
                            refine mg_ref hx hb hts in_X8 hown hE hP 0 (yl_n hA (by decide)) rfl rfl 17 rfl (by decide) (hts _ q781) (fun _ h9 => h9) dX8_freeBy_111 ?_
                            refine lv_iload hx hb dX8_freeBy_114 (lv_at hl 4 rfl) ?_
                            refine mg_ild hx hb hE hP 10 (yl_n hA (by decide)) rfl dn2 (by omega) rfl (by decide) dX8_freeBy_116 ?_
                            refine lv_icmp_ge (tgt := 124) hx hb dX8_freeBy_117 (by decide) (fun c_18 => ?_) (fun c_18 => ?_)
                            · have nc_18 : o dn2 ≤ o k := mi_le ((mS_o hQ2 (by decide)).trans (ho dn2 (by omega)).1) ((mS_o hQ2 (by decide)).trans (ho k (by omega)).1) (by omega) (by omega) c_18
                              have hck1 : cntO o (o dn2) (k + 1) = cntO o (o dn2) k := by rw [cntO, if_neg (by omega), Nat.add_zero]
                              refine lv_iconst (v := 0) hx hb dX8_freeBy_124 (by decide) ?_
                              refine lv_isub hx hb dX8_freeBy_125 ?_
                              refine lv_rwi (mi_sub (a := e) (b := 0) rfl rfl (by omega)) ?_
                              refine lv_istore (lv' := [(7, .int (nI (e - 0))), (8, .int (nI k)), (6, .int 1), (5, .int (nI d)), (4, .int (nI dn2)), (3, .int (nI (40 * p))), (0, .ref (ad 0)), (1, .int x), (2, .int y)]) hx hb dX8_freeBy_126 hl (by decide) rfl (fun ls hl => ?_)
                              refine lv_iinc (v := (nI (k + 1))) (lv' := [(8, .int (nI (k + 1))), (7, .int (nI (e - 0))), (6, .int 1), (5, .int (nI d)), (4, .int (nI dn2)), (3, .int (nI (40 * p))), (0, .ref (ad 0)), (1, .int x), (2, .int y)]) hx hb dX8_freeBy_128 hl (k := 1) rfl (mi_add rfl rfl) (by decide) rfl (fun ls hl => ?_)
                              refine lv_goto (tgt := 94) hx hb dX8_freeBy_131 (by decide) ?_
                              exact ih94  (k + 1) (e - 0) (by omega) (by omega) (by omega) ls (lv_sub hl [0, 1, 2, 3, 4, 5, 6, 7, 8] rfl)
                            · have nc_18 : o k < o dn2 := mi_nle ((mS_o hQ2 (by decide)).trans (ho dn2 (by omega)).1) ((mS_o hQ2 (by decide)).trans (ho k (by omega)).1) (by omega) (by omega) c_18
                              have hck1 : cntO o (o dn2) (k + 1) = cntO o (o dn2) k + 1 := by rw [cntO, if_pos (by omega)]
                              refine lv_iconst (v := 1) hx hb dX8_freeBy_120 (by decide) ?_
                              refine lv_goto (tgt := 125) hx hb dX8_freeBy_121 (by decide) ?_
                              refine lv_isub hx hb dX8_freeBy_125 ?_
                              refine lv_rwi (mi_sub (a := e) (b := 1) rfl rfl (by omega)) ?_
                              refine lv_istore (lv' := [(7, .int (nI (e - 1))), (8, .int (nI k)), (6, .int 1), (5, .int (nI d)), (4, .int (nI dn2)), (3, .int (nI (40 * p))), (0, .ref (ad 0)), (1, .int x), (2, .int y)]) hx hb dX8_freeBy_126 hl (by decide) rfl (fun ls hl => ?_)
                              refine lv_iinc (v := (nI (k + 1))) (lv' := [(8, .int (nI (k + 1))), (7, .int (nI (e - 1))), (6, .int 1), (5, .int (nI d)), (4, .int (nI dn2)), (3, .int (nI (40 * p))), (0, .ref (ad 0)), (1, .int x), (2, .int y)]) hx hb dX8_freeBy_128 hl (k := 1) rfl (mi_add rfl rfl) (by decide) rfl (fun ls hl => ?_)
                              refine lv_goto (tgt := 94) hx hb dX8_freeBy_131 (by decide) ?_
                              exact ih94  (k + 1) (e - 1) (by omega) (by omega) (by omega) ls (lv_sub hl [0, 1, 2, 3, 4, 5, 6, 7, 8] rfl)
                      exact lp94 (dn2 - 0 + 1) 0 (o dn2) (by omega) (by rfl) (by omega) ls (lv_sub hl [0, 1, 2, 3, 4, 5, 6, 7, 8] rfl)
                exact lp77 (n - dn + 1) dn τ C pd (by omega) hQ rfl (by omega) _ _ hP hS ls (lv_sub hl [0, 1, 2, 3, 4, 5, 6] rfl)
        exact lp56 (361 - 0 + 1) 0 0 (mup (cyF σ (40 * p) k) 0 19 0) A 0 (by omega) (by omega) (mS_start hs hn (show k = 40 by omega)) (by unfold evO; rw [hn]) (by omega) _ _ hP hS ls (lv_sub hl [0, 1, 2, 3, 4, 5] rfl)
      · have nc_1 : k < 40 := mi_nle rfl rfl (by omega) (by omega) c_1
        refine lv_aload_n hx hb dX8_freeBy_15 rfl (lv_at hl 2 rfl) ?_
        refine mg_ref hx hb hts in_X8 hown hE hP 0 (yl_n hA (by decide)) rfl rfl 2 rfl (by decide) (hts _ q766) (fun _ h9 => h9) dX8_freeBy_16 ?_
        refine lv_iload_n hx hb dX8_freeBy_19 rfl (lv_at hl 1 rfl) ?_
        refine lv_iload hx hb dX8_freeBy_20 (lv_at hl 0 rfl) ?_
        refine lv_iadd hx hb dX8_freeBy_22 ?_
        refine lv_aload_n hx hb dX8_freeBy_23 rfl (lv_at hl 2 rfl) ?_
        refine mg_ref hx hb hts in_X8 hown hE hP 0 (yl_n hA (by decide)) rfl rfl 21 rfl (by decide) (hts _ q785) (fun _ h9 => h9) dX8_freeBy_24 ?_
        refine lv_iload hx hb dX8_freeBy_27 (lv_at hl 0 rfl) ?_
        refine mg_ild hx hb hE hP 12 (yl_n hA (by decide)) rfl k (by omega) rfl (by decide) dX8_freeBy_29 ?_
        refine mg_ist (v := (cyF σ (40 * p) k) 12 k) hx hb hE hD hP hS 2 (yl_n hA (by decide)) rfl (40 * p + k) (by omega) (mi_add rfl rfl) (by decide) dX8_freeBy_30 (fun H locs hP hS => ?_)
        refine lv_iinc (v := (nI (k + 1))) (lv' := [(4, .int (nI (k + 1))), (3, .int (nI (40 * p))), (0, .ref (ad 0)), (1, .int x), (2, .int y)]) hx hb dX8_freeBy_31 hl (k := 0) rfl (mi_add rfl rfl) (by decide) rfl (fun ls hl => ?_)
        refine lv_goto (tgt := 8) hx hb dX8_freeBy_34 (by decide) ?_
        exact ih8  (k + 1) (by omega) (by omega) _ _ (m_eq (rfl) hP) hS ls (lv_sub hl [0, 1, 2, 3, 4] rfl)
  exact lp8 (40 - 0 + 1) 0 (by omega) (by omega) _ _ (m_eq (rfl) hP) hS ls (lv_sub hl [0, 1, 2, 3, 4] rfl)
