theorem sl_5 {a b c d e : Cond} (h1 : a ∈ lw_all) (h2 : b ∈ lw_all) (h3 : c ∈ lw_all) (h4 : d ∈ lw_all) (h5 : e ∈ lw_all) : ∀ w ∈ [a, b, c, d, e], w ∈ lw_all := by
  intro w hw
  simp only [List.mem_cons, List.not_mem_nil, or_false] at hw
  rcases hw with e | e | e | e | e <;> rw [e] <;> assumption
theorem sl_6 {a b c d e f : Cond} (h1 : a ∈ lw_all) (h2 : b ∈ lw_all) (h3 : c ∈ lw_all) (h4 : d ∈ lw_all) (h5 : e ∈ lw_all) (h6 : f ∈ lw_all) : ∀ w ∈ [a, b, c, d, e, f], w ∈ lw_all := by
  intro w hw
  simp only [List.mem_cons, List.not_mem_nil, or_false] at hw
  rcases hw with e | e | e | e | e | e <;> rw [e] <;> assumption
/-- whether a coat may come off: by the rule, the coat's number, how many there are -/
abbrev lets_ (ru : Nat) (c n : Int32) : Prop := if ru = 0 then c = n - 1 else if ru = 1 then c = 0 else (¬ c = 0 ∨ n = 1)
set_option maxHeartbeats 4000000 in
set_option maxRecDepth 100000 in
theorem mt_X1_lets (l : Launch) (D : va_G) (dA : Nat → ClassId) (rr : Nat → Option Nat) (xs : Nat → mSh) (ad : Nat → Nat) (N : Nat) (hA : xA ad N) (σ : mMem) (w : Nat) (hw : xw w) (c : Int32) : Met l yX1_lets (ws_ yX1_lets cX1_lets 3 (some .boolean)) ({ frames := 0, cells := 0, slots := 0, locals := 0 }) (va_Pc [.ref (ad 14), .ref (ad w), .int c] (mPre D dA (shX rr xs) ad N σ)) (vp_Si (fun r : Int32 => r = bi (c = σ w 6 - 1))) 0 0 (fun _ => False) := by
  refine Met.ofW (cc := cX1_lets) (maxL := 3) (ret := (some .boolean)) (by decide) rfl ?_
  intro pp ee ss mm args below meth cd s₁ B hml hv
  obtain ⟨rfl, hP, hE⟩ := hv
  have hx := B.exec
  have hb := B.bytes
  have hr := B.returns
  have hts := atoms_spec (ws := ws_ yX1_lets cX1_lets 3 (some .boolean)) B.pre
  have hts : ∀ w ∈ lw_all, w.before _ ss = true := fun w h => hts w (List.mem_cons_of_mem _ h)
  have hown : ss.vm.findClass RX1 = some mm.cls := findClass_of_methodNamed B.named
  have hlocks := B.notSynchronized
  have hNN := hA.1
  obtain ⟨hw1, hw2, hw3⟩ := id hw
  have hl := lv_entry ([.ref (ad 14), .ref (ad w), .int c]) (n := 3) (Nat.le_of_ble_eq_true rfl)
  rw [lg_entry_eq]
  generalize (lg_sl ([.ref (ad 14), .ref (ad w), .int c]) ++ List.replicate (3 - (lg_sl ([.ref (ad 14), .ref (ad w), .int c])).length) Slot.unset).toArray = ls at hl ⊢
  have hl : lv_has ls 3 [(0, .ref (ad 14)), (1, .ref (ad w)), (2, .int c)] := hl
  refine lv_iload_n hx hb dX1_lets_0 rfl (lv_at hl 2 rfl) ?_
  refine lv_aload_n hx hb dX1_lets_1 rfl (lv_at hl 1 rfl) ?_
  refine mg_getN hx hb hts in_X5 hown hE hP w (xl_o hA hw) (shX_o hw) rfl 6 rfl (by decide) q124 (fun _ h9 => h9) dX1_lets_2 ?_
  refine lv_iconst (v := 1) hx hb dX1_lets_5 (by decide) ?_
  refine lv_isub hx hb dX1_lets_6 ?_
  refine lv_icmp_ne (tgt := 14) hx hb dX1_lets_7 (by decide) (fun c_1 => ?_) (fun c_1 => ?_)
  · skip
    refine lv_iconst (v := 0) hx hb dX1_lets_14 (by decide) ?_
    exact W.zret (v := 0) hx hb hr rfl (fun t ht hW => ⟨_, rfl, bi_0 c_1, ht⟩) (fun q hq => by cases hq) dX1_lets_15
  · skip
    refine lv_iconst (v := 1) hx hb dX1_lets_10 (by decide) ?_
    refine lv_goto (tgt := 15) hx hb dX1_lets_11 (by decide) ?_
    exact W.zret (v := 1) hx hb hr rfl (fun t ht hW => ⟨_, rfl, bi_1 c_1, ht⟩) (fun q hq => by cases hq) dX1_lets_15
set_option maxHeartbeats 4000000 in
set_option maxRecDepth 100000 in
theorem mt_X2_lets (l : Launch) (D : va_G) (dA : Nat → ClassId) (rr : Nat → Option Nat) (xs : Nat → mSh) (ad : Nat → Nat) (N : Nat) (hA : xA ad N) (σ : mMem) (o : Nat) (w : Nat) (hw : xw w) (c : Int32) : Met l yX2_lets (ws_ yX2_lets cX2_lets 3 (some .boolean)) ({ frames := 0, cells := 0, slots := 0, locals := 0 }) (va_Pc [.ref (ad o), .ref (ad w), .int c] (mPre D dA (shX rr xs) ad N σ)) (vp_Si (fun r : Int32 => r = bi (c = 0))) 0 0 (fun _ => False) := by
  refine Met.ofW (cc := cX2_lets) (maxL := 3) (ret := (some .boolean)) (by decide) rfl ?_
  intro pp ee ss mm args below meth cd s₁ B hml hv
  obtain ⟨rfl, hP, hE⟩ := hv
  have hx := B.exec
  have hb := B.bytes
  have hr := B.returns
  have hts := atoms_spec (ws := ws_ yX2_lets cX2_lets 3 (some .boolean)) B.pre
  have hts : ∀ w ∈ lw_all, w.before _ ss = true := fun w h => hts w (List.mem_cons_of_mem _ h)
  have hown : ss.vm.findClass RX2 = some mm.cls := findClass_of_methodNamed B.named
  have hlocks := B.notSynchronized
  have hNN := hA.1
  obtain ⟨hw1, hw2, hw3⟩ := id hw
  have hl := lv_entry ([.ref (ad o), .ref (ad w), .int c]) (n := 3) (Nat.le_of_ble_eq_true rfl)
  rw [lg_entry_eq]
  generalize (lg_sl ([.ref (ad o), .ref (ad w), .int c]) ++ List.replicate (3 - (lg_sl ([.ref (ad o), .ref (ad w), .int c])).length) Slot.unset).toArray = ls at hl ⊢
  have hl : lv_has ls 3 [(0, .ref (ad o)), (1, .ref (ad w)), (2, .int c)] := hl
  refine lv_iload_n hx hb dX2_lets_0 rfl (lv_at hl 2 rfl) ?_
  refine lv_if_ne (tgt := 8) hx hb dX2_lets_1 (by decide) (fun c_1 => ?_) (fun c_1 => ?_)
  · skip
    refine lv_iconst (v := 0) hx hb dX2_lets_8 (by decide) ?_
    exact W.zret (v := 0) hx hb hr rfl (fun t ht hW => ⟨_, rfl, bi_0 c_1, ht⟩) (fun q hq => by cases hq) dX2_lets_9
  · skip
    refine lv_iconst (v := 1) hx hb dX2_lets_4 (by decide) ?_
    refine lv_goto (tgt := 9) hx hb dX2_lets_5 (by decide) ?_
    exact W.zret (v := 1) hx hb hr rfl (fun t ht hW => ⟨_, rfl, bi_1 c_1, ht⟩) (fun q hq => by cases hq) dX2_lets_9
set_option maxHeartbeats 4000000 in
set_option maxRecDepth 100000 in
theorem mt_X3_lets (l : Launch) (D : va_G) (dA : Nat → ClassId) (rr : Nat → Option Nat) (xs : Nat → mSh) (ad : Nat → Nat) (N : Nat) (hA : xA ad N) (σ : mMem) (w : Nat) (hw : xw w) (c : Int32) : Met l yX3_lets (ws_ yX3_lets cX3_lets 3 (some .boolean)) ({ frames := 1, cells := 0, slots := 0, locals := 22 }) (va_Pc [.ref (ad 16), .ref (ad w), .int c] (mPre D dA (shX rr xs) ad N σ)) (vp_Si (fun r : Int32 => r = bi (¬ c = 0 ∨ σ w 6 = 1))) 0 0 (fun _ => False) := by
  refine Met.ofW (cc := cX3_lets) (maxL := 3) (ret := (some .boolean)) (by decide) rfl ?_
  intro pp ee ss mm args below meth cd s₁ B hml hv
  obtain ⟨rfl, hP, hE⟩ := hv
  have hx := B.exec
  have hb := B.bytes
  have hr := B.returns
  have hts := atoms_spec (ws := ws_ yX3_lets cX3_lets 3 (some .boolean)) B.pre
  have hts : ∀ w ∈ lw_all, w.before _ ss = true := fun w h => hts w (List.mem_cons_of_mem _ h)
  have hown : ss.vm.findClass RX3 = some mm.cls := findClass_of_methodNamed B.named
  have hlocks := B.notSynchronized
  have hNN := hA.1
  obtain ⟨hw1, hw2, hw3⟩ := id hw
  have hl := lv_entry ([.ref (ad 16), .ref (ad w), .int c]) (n := 3) (Nat.le_of_ble_eq_true rfl)
  rw [lg_entry_eq]
  generalize (lg_sl ([.ref (ad 16), .ref (ad w), .int c]) ++ List.replicate (3 - (lg_sl ([.ref (ad 16), .ref (ad w), .int c])).length) Slot.unset).toArray = ls at hl ⊢
  have hl : lv_has ls 3 [(0, .ref (ad 16)), (1, .ref (ad w)), (2, .int c)] := hl
  refine lv_aload_n hx hb dX3_lets_0 rfl (lv_at hl 0 rfl) ?_
  refine lv_aload_n hx hb dX3_lets_1 rfl (lv_at hl 1 rfl) ?_
  refine lv_iload_n hx hb dX3_lets_2 rfl (lv_at hl 2 rfl) ?_
  refine vp_callSi (va_Run.run (va_runSU (C := RX3) (As := [.ref (ad w), .int c]) (rest := []) (hE.1.1 3 _ rfl).2 ⟨hx, hb, hml, hown, hts⟩ (mt_X2_lets l D dA rr xs ad N hA σ 16 w hw c) (va_cwSU 2 hts (lw_app (sl_5 q466 q1098 q96 q467 q47) (lw_meth q468)) rfl rfl rfl (by decide +kernel) ⟨Nat.le_of_ble_eq_true rfl, Nat.le_of_ble_eq_true rfl⟩) ⟨mPre.blind, m_recv hE hP 16 (xl_n hA (by decide)) rfl rfl, mPre.at hE hP⟩ rfl rfl hl.1 rfl (lv_room (Nat.le_of_ble_eq_true rfl)) dX3_lets_3 ⟨Nat.le_of_ble_eq_true rfl, Nat.le_of_ble_eq_true rfl⟩)) (fun r_1 hr_1 => ?_)
  subst hr_1
  refine lv_if_eq (tgt := 17) hx hb dX3_lets_6 (by decide) (fun c_1 => ?_) (fun c_1 => ?_)
  · have c_1 : ¬ (c = 0) := bi_f c_1
    refine lv_iconst (v := 1) hx hb dX3_lets_17 (by decide) ?_
    refine lv_goto (tgt := 22) hx hb dX3_lets_18 (by decide) ?_
    exact W.zret (v := 1) hx hb hr rfl (fun t ht hW => ⟨_, rfl, bi_1 (Or.inl c_1), ht⟩) (fun q hq => by cases hq) dX3_lets_22
  · have c_1 : c = 0 := bi_t c_1
    refine lv_aload_n hx hb dX3_lets_9 rfl (lv_at hl 1 rfl) ?_
    refine mg_getN hx hb hts in_X5 hown hE hP w (xl_o hA hw) (shX_o hw) rfl 6 rfl (by decide) q125 (fun _ h9 => h9) dX3_lets_10 ?_
    refine lv_iconst (v := 1) hx hb dX3_lets_13 (by decide) ?_
    refine lv_icmp_ne (tgt := 21) hx hb dX3_lets_14 (by decide) (fun c_2 => ?_) (fun c_2 => ?_)
    · skip
      refine lv_iconst (v := 0) hx hb dX3_lets_21 (by decide) ?_
      exact W.zret (v := 0) hx hb hr rfl (fun t ht hW => ⟨_, rfl, bi_0 (fun q => q.elim (fun z => z c_1) c_2), ht⟩) (fun q hq => by cases hq) dX3_lets_22
    · skip
      refine lv_iconst (v := 1) hx hb dX3_lets_17 (by decide) ?_
      refine lv_goto (tgt := 22) hx hb dX3_lets_18 (by decide) ?_
      exact W.zret (v := 1) hx hb hr rfl (fun t ht hW => ⟨_, rfl, bi_1 (Or.inr c_2), ht⟩) (fun q hq => by cases hq) dX3_lets_22
section
variable {p : Program} {l : Launch} {e : Env} {R : Room} {s : State} {m : MethodId} {args : Array Value} {below : List Frame} {meth : Method} {c : Code} {H : Heap} {locs : List Loc} {cells slots : Nat} {Q : State → Prop} {pc : Nat} {ls : Array Slot} {rest : List Value} {cc : ByteArray} {nL : Nat}
/-- off().lets(w, x) out of DebtCoats: by the rule's own object -/
theorem mg_lets {D : va_G} {dA : Nat → ClassId} {rr : Nat → Option Nat} {xs : Nat → mSh} {ad : Nat → Nat} {N : Nat} (hA : xA ad N) {σ : mMem} (hx : p.tables.exec = Jvm.exec) (hb : c.code = cc) (hml : c.maxLocals = nL) (hown : s.vm.findClass RX0 = some m.cls) (hts : ∀ w ∈ lw_all, w.before args s = true) (hE : mE D dA s) (hP : va_P D xCl (mW dA (shX rr xs) ad N σ) H) (ru : Nat) (hru : ru < 3) (w : Nat) (hw : xw w) (x : Int32) (hs : ls.size = nL) (hrest : (rest.map fun v => v.category).sum ≤ 8) (hR : 2 ≤ R.frames ∧ 44 ≤ R.locals) (hc : cells ≤ R.cells ∧ slots ≤ R.slots) (hdg : decode cc pc = .ok (.invokevirtual 217, 3))
    (k : W p l e R s m args below meth c H locs cells slots Q (F0 m (pc + 3) ls (.int (bi (lets_ ru x (σ w 6))) :: rest))) : W p l e R s m args below meth c H locs cells slots Q (F0 m pc ls (.int x :: .ref (ad w) :: .ref (ad (14 + ru)) :: rest)) := by
  have hR2 := hR
  rcases (show ru = 0 ∨ ru = 1 ∨ ru = 2 by omega) with rfl | rfl | rfl
  · refine vp_callSi (W.runV (As := [.ref (ad w), .int x]) (rest := rest) ⟨hx, hb, hml, hown, hts⟩ (mt_X1_lets l D dA rr xs ad N hA σ w hw x) (cwV 2 hts (lw_V q459 q460 q461 q46 q470) rfl rfl rfl (by decide +kernel) ⟨Nat.le_trans (by decide) hR.1, Nat.le_trans (by decide) hR.2⟩) ⟨mPre.blind, m_recv hE hP 14 (xl_n hA (by decide)) rfl rfl, mPre.at hE hP⟩ rfl rfl hs rfl (lv_room hrest) hdg ⟨hc.1, hc.2⟩) (fun r hr => ?_)
    subst hr
    exact k
  · refine vp_callSi (va_Run.run (va_runU (C := RX2) (owner := "DebtCoats$Outermost") (x := yX1_lets) (As := [.ref (ad w), .int x]) (rest := rest) ⟨hx, hb, hml, hown, hts⟩ (mt_X2_lets l D dA rr xs ad N hA σ 15 w hw x) (va_cwO 2 hts (lw_app (sl_6 q459 q462 q460 q469 q467 q47) (lw_meth q468)) rfl rfl rfl q470 (by decide +kernel) ⟨Nat.le_trans (by decide) hR.1, Nat.le_trans (by decide) hR.2⟩) ⟨mPre.blind, m_recv hE hP 15 (xl_n hA (by decide)) rfl rfl, mPre.at hE hP⟩ rfl rfl hs rfl (lv_room hrest) hdg ⟨hc.1, hc.2⟩)) (fun r hr => ?_)
    subst hr
    exact k
  · refine vp_callSi (va_Run.run (va_runU (C := RX3) (owner := "DebtCoats$Outermost") (x := yX1_lets) (As := [.ref (ad w), .int x]) (rest := rest) ⟨hx, hb, hml, hown, hts⟩ (mt_X3_lets l D dA rr xs ad N hA σ w hw x) (va_cwO 2 hts (lw_app (sl_6 q459 q462 q460 q463 q464 q48) (lw_meth q465)) rfl rfl rfl q470 (by decide +kernel) ⟨Nat.le_trans (by decide) hR.1, Nat.le_trans (by decide) hR.2⟩) ⟨mPre.blind, m_recv hE hP 16 (xl_n hA (by decide)) rfl rfl, mPre.at hE hP⟩ rfl rfl hs rfl (lv_room hrest) hdg ⟨hc.1, hc.2⟩)) (fun r hr => ?_)
    subst hr
    exact k
end
