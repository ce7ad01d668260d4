theorem m_eq {D : va_G} {dA : Nat → ClassId} {sh : Nat → mSh} {ad : Nat → Nat} {N : Nat} {σ τ : mMem} {H : Heap} (h : σ = τ) (hP : va_P D xCl (mW dA sh ad N σ) H) : va_P D xCl (mW dA sh ad N τ) H := h ▸ hP
def mB (D : va_G) (dA : Nat → ClassId) (sh : Nat → mSh) (ad : Nat → Nat) (N : Nat) (u : mMem) (t : State) : Prop := va_P D xCl (mW dA sh ad N u) t.heap
theorem mB.of {D : va_G} {dA : Nat → ClassId} {sh : Nat → mSh} {ad : Nat → Nat} {N : Nat} {u : mMem} {t : State} {H : Heap} (ht : t.heap = H) (h : va_P D xCl (mW dA sh ad N u) H) : mB D dA sh ad N u t := by
  unfold mB; rw [ht]; exact h
theorem mB.get {D : va_G} {dA : Nat → ClassId} {sh : Nat → mSh} {ad : Nat → Nat} {N : Nat} {u : mMem} {t : State} {H : Heap} (ht : t.heap = H) (h : mB D dA sh ad N u t) : va_P D xCl (mW dA sh ad N u) H := by
  unfold mB at h; rw [ht] at h; exact h
def thk (f : Nat → Int32) : Nat → Int32
  | 0 => 0
  | c + 1 => thk f c + f (4 * c + 3)
theorem va_up_id {α : Type} {f : Nat → α} {i : Nat} {x : α} (h : f i = x) : va_up f i x = f := by
  funext j
  by_cases q : j = i
  · subst q; rw [va_up_self, h]
  · rw [va_up_ne _ _ q]
theorem mup_up (σ : mMem) (i : Nat) (f : Nat → Int32) (k : Nat) (v : Int32) : mup (va_up σ i f) i k v = va_up σ i (upd f k v) := by
  unfold mup
  rw [va_up_self, bx_uu]
def zt (f : Nat → Int32) : Nat → (Nat → Int32)
  | 0 => f
  | c + 1 => upd (zt f c) c 0
def mx0 (y : Int32) : Int32 := if 0 < y then y else 0
/-- an amount behind a night -/
def nam (a r : Int32) : Int32 := if a + a * r / 100 < 999999 then a + a * r / 100 else 999999
def nco (f : Nat → Int32) : Nat → (Nat → Int32)
  | 0 => f
  | c + 1 => upd (nco f c) (4 * c + 1) (nam (nco f c (4 * c + 1)) (nco f c (4 * c + 2)))
theorem nco_0 (f : Nat → Int32) (c k : Nat) : nco f c (4 * k) = f (4 * k) := by
  induction c with
  | zero => rfl
  | succ c ih => rw [nco, pk_un (by omega), ih]
def nask (tx : Nat → Int32) (ld : Nat → Nat) : Nat → Int32
  | 0 => 0
  | c + 1 => nask tx ld c + tx (ld c)
def npu (pu inc ask : Int32) : Int32 := if mx0 (pu + inc - ask) < 999999 then mx0 (pu + inc - ask) else 999999
/-- a wearer behind a night -/
def ngt (σ : mMem) (w n : Nat) (ld : Nat → Nat) : mMem := mup (va_up σ (w + 2) (nco (σ (w + 2)) n)) w 0 (npu (σ w 0) (σ w 1) (nask (σ (w + 1)) ld n))
def tkf (σ : mMem) (w v : Nat) : mMem := va_up (va_up (mup (mup (mup (mup (mup σ w 0 (σ v 0)) w 1 (σ v 1)) w 2 (σ v 2)) w 3 (σ v 3)) w 6 (σ v 6)) (w + 1) (va_cpy (σ (v + 1)) (σ (w + 1)) 0 0 5)) (w + 2) (va_cpy (σ (v + 2)) (σ (w + 2)) 0 0 32)
/-- coat c off, of n -/
def rmv (σ : mMem) (w n c : Nat) : mMem := va_up (mup σ w 6 (nI (n - 1))) (w + 2) (va_cpy (σ (w + 2)) (σ (w + 2)) (4 * (c + 1)) (4 * c) (4 * (n - 1 - c)))
set_option maxHeartbeats 4000000 in
set_option maxRecDepth 100000 in
theorem mt_X5_lender (l : Launch) (D : va_G) (dA : Nat → ClassId) (rr : Nat → Option Nat) (xs : Nat → mSh) (ad : Nat → Nat) (N : Nat) (hA : xA ad N) (σ : mMem) (w : Nat) (hw : xw w) (x : Int32) (c : Nat) (hx0 : x = nI c) (hc : c < 8) : Met l yX5_lender (ws_ yX5_lender cX5_lender 2 (some .int)) ({ frames := 0, cells := 0, slots := 0, locals := 0 }) (va_Pc [.ref (ad w), .int x] (mPre D dA (shX rr xs) ad N σ)) (vp_Si (fun r : Int32 => r = σ (w + 2) (4 * c))) 0 0 (fun _ => False) := by
  refine Met.ofW (cc := cX5_lender) (maxL := 2) (ret := (some .int)) (by decide) rfl ?_
  intro pp ee ss mm args below meth cd s₁ B hml hv
  obtain ⟨rfl, hP, hE⟩ := hv
  have hx := B.exec
  have hb := B.bytes
  have hr := B.returns
  have hts := atoms_spec (ws := ws_ yX5_lender cX5_lender 2 (some .int)) B.pre
  have hts : ∀ w ∈ lw_all, w.before _ ss = true := fun w h => hts w (List.mem_cons_of_mem _ h)
  have hown : ss.vm.findClass RX5 = some mm.cls := findClass_of_methodNamed B.named
  have hlocks := B.notSynchronized
  have hNN := hA.1
  obtain ⟨hw1, hw2, hw3⟩ := id hw
  have hl := lv_entry ([.ref (ad w), .int x]) (n := 2) (Nat.le_of_ble_eq_true rfl)
  rw [lg_entry_eq]
  generalize (lg_sl ([.ref (ad w), .int x]) ++ List.replicate (2 - (lg_sl ([.ref (ad w), .int x])).length) Slot.unset).toArray = ls at hl ⊢
  have hl : lv_has ls 2 [(0, .ref (ad w)), (1, .int x)] := hl
  refine lv_aload_n hx hb dX5_lender_0 rfl (lv_at hl 0 rfl) ?_
  refine mg_ref hx hb hts in_X5 hown hE hP w (xl_o hA hw) (shX_o hw) rfl 5 rfl (by decide) (hts _ q122) (fun _ h9 => h9) dX5_lender_1 ?_
  refine lv_iconst (v := 4) hx hb dX5_lender_4 (by decide) ?_
  refine lv_iload_n hx hb dX5_lender_5 rfl (lv_at hl 1 rfl) ?_
  refine lv_imul hx hb dX5_lender_6 ?_
  refine mg_ild hx hb hE hP (w + 2) (xl_c hA hw) (shX_c hw) (4 * c) (by omega) (mi_mul rfl hx0) (by decide) dX5_lender_7 ?_
  exact W.iret (v := σ (w + 2) (4 * c)) hx hb hr (fun t ht hW => ⟨_, rfl, rfl, ht⟩) (fun q hq => by cases hq) dX5_lender_8
set_option maxHeartbeats 4000000 in
set_option maxRecDepth 100000 in
theorem mt_X5_amount (l : Launch) (D : va_G) (dA : Nat → ClassId) (rr : Nat → Option Nat) (xs : Nat → mSh) (ad : Nat → Nat) (N : Nat) (hA : xA ad N) (σ : mMem) (w : Nat) (hw : xw w) (x : Int32) (c : Nat) (hx0 : x = nI c) (hc : c < 8) : Met l yX5_amount (ws_ yX5_amount cX5_amount 2 (some .int)) ({ frames := 0, cells := 0, slots := 0, locals := 0 }) (va_Pc [.ref (ad w), .int x] (mPre D dA (shX rr xs) ad N σ)) (vp_Si (fun r : Int32 => r = σ (w + 2) (4 * c + 1))) 0 0 (fun _ => False) := by
  refine Met.ofW (cc := cX5_amount) (maxL := 2) (ret := (some .int)) (by decide) rfl ?_
  intro pp ee ss mm args below meth cd s₁ B hml hv
  obtain ⟨rfl, hP, hE⟩ := hv
  have hx := B.exec
  have hb := B.bytes
  have hr := B.returns
  have hts := atoms_spec (ws := ws_ yX5_amount cX5_amount 2 (some .int)) B.pre
  have hts : ∀ w ∈ lw_all, w.before _ ss = true := fun w h => hts w (List.mem_cons_of_mem _ h)
  have hown : ss.vm.findClass RX5 = some mm.cls := findClass_of_methodNamed B.named
  have hlocks := B.notSynchronized
  have hNN := hA.1
  obtain ⟨hw1, hw2, hw3⟩ := id hw
  have hl := lv_entry ([.ref (ad w), .int x]) (n := 2) (Nat.le_of_ble_eq_true rfl)
  rw [lg_entry_eq]
  generalize (lg_sl ([.ref (ad w), .int x]) ++ List.replicate (2 - (lg_sl ([.ref (ad w), .int x])).length) Slot.unset).toArray = ls at hl ⊢
  have hl : lv_has ls 2 [(0, .ref (ad w)), (1, .int x)] := hl
  refine lv_aload_n hx hb dX5_amount_0 rfl (lv_at hl 0 rfl) ?_
  refine mg_ref hx hb hts in_X5 hown hE hP w (xl_o hA hw) (shX_o hw) rfl 5 rfl (by decide) (hts _ q122) (fun _ h9 => h9) dX5_amount_1 ?_
  refine lv_iconst (v := 4) hx hb dX5_amount_4 (by decide) ?_
  refine lv_iload_n hx hb dX5_amount_5 rfl (lv_at hl 1 rfl) ?_
  refine lv_imul hx hb dX5_amount_6 ?_
  refine lv_iconst (v := 1) hx hb dX5_amount_7 (by decide) ?_
  refine lv_iadd hx hb dX5_amount_8 ?_
  refine mg_ild hx hb hE hP (w + 2) (xl_c hA hw) (shX_c hw) (4 * c + 1) (by omega) (mi_add (mi_mul rfl hx0) rfl) (by decide) dX5_amount_9 ?_
  exact W.iret (v := σ (w + 2) (4 * c + 1)) hx hb hr (fun t ht hW => ⟨_, rfl, rfl, ht⟩) (fun q hq => by cases hq) dX5_amount_10
set_option maxHeartbeats 4000000 in
set_option maxRecDepth 100000 in
theorem mt_X5_thick (l : Launch) (D : va_G) (dA : Nat → ClassId) (rr : Nat → Option Nat) (xs : Nat → mSh) (ad : Nat → Nat) (N : Nat) (hA : xA ad N) (σ : mMem) (w : Nat) (hw : xw w) (n : Nat) (hn : σ w 6 = nI n) (hn8 : n ≤ 8) : Met l yX5_thick (ws_ yX5_thick cX5_thick 3 (some .int)) ({ frames := 0, cells := 0, slots := 0, locals := 0 }) (va_Pc [.ref (ad w)] (mPre D dA (shX rr xs) ad N σ)) (vp_Si (fun r : Int32 => r = thk (σ (w + 2)) n)) 0 0 (fun _ => False) := by
  refine Met.ofW (cc := cX5_thick) (maxL := 3) (ret := (some .int)) (by decide) rfl ?_
  intro pp ee ss mm args below meth cd s₁ B hml hv
  obtain ⟨rfl, hP, hE⟩ := hv
  have hx := B.exec
  have hb := B.bytes
  have hr := B.returns
  have hts := atoms_spec (ws := ws_ yX5_thick cX5_thick 3 (some .int)) B.pre
  have hts : ∀ w ∈ lw_all, w.before _ ss = true := fun w h => hts w (List.mem_cons_of_mem _ h)
  have hown : ss.vm.findClass RX5 = some mm.cls := findClass_of_methodNamed B.named
  have hlocks := B.notSynchronized
  have hNN := hA.1
  obtain ⟨hw1, hw2, hw3⟩ := id hw
  have hl := lv_entry ([.ref (ad w)]) (n := 3) (Nat.le_of_ble_eq_true rfl)
  rw [lg_entry_eq]
  generalize (lg_sl ([.ref (ad w)]) ++ List.replicate (3 - (lg_sl ([.ref (ad w)])).length) Slot.unset).toArray = ls at hl ⊢
  have hl : lv_has ls 3 [(0, .ref (ad w))] := hl
  refine lv_iconst (v := 0) hx hb dX5_thick_0 (by decide) ?_
  refine lv_istore_n (lv' := [(1, .int 0), (0, .ref (ad w))]) hx hb dX5_thick_1 rfl hl (by decide) rfl (fun ls hl => ?_)
  refine lv_iconst (v := 0) hx hb dX5_thick_2 (by decide) ?_
  refine lv_istore_n (lv' := [(2, .int 0), (1, .int 0), (0, .ref (ad w))]) hx hb dX5_thick_3 rfl hl (by decide) rfl (fun ls hl => ?_)
  have lp4 : ∀ (fu : Nat) (c : Nat) (_ : c ≤ n) (_ : n - c < fu) (ls : Array Slot) (_ : lv_has ls 3 [(2, .int (nI c)), (1, .int (thk (σ (w + 2)) c)), (0, .ref (ad w))]), W pp l ee (headSpec (ws_ yX5_thick cX5_thick 3 (some .int)) ({ frames := 0, cells := 0, slots := 0, locals := 0 })).room ss mm ([.ref (ad w)] : List Value).toArray below meth cd ss.heap [] 0 0 (MQ below (vp_Si (fun r : Int32 => r = thk (σ (w + 2)) n)) ([.ref (ad w)] : List Value).toArray ss 0 0 (fun _ => False)) (F0 mm 4 ls []) := by
    intro fu
    induction fu with
    | zero => intro c hc hfu; exact absurd hfu (Nat.not_lt_zero _)
    | succ fu ih4 =>
      intro c hc hfu ls hl
      refine lv_iload_n hx hb dX5_thick_4 rfl (lv_at hl 0 rfl) ?_
      refine lv_aload_n hx hb dX5_thick_5 rfl (lv_at hl 2 rfl) ?_
      refine mg_get hx hb hts in_X5 hown hE hP w (xl_o hA hw) (shX_o hw) rfl 6 rfl (by decide) (hts _ q126) (fun _ h9 => h9) dX5_thick_6 ?_
      refine lv_icmp_ge (tgt := 31) hx hb dX5_thick_9 (by decide) (fun c_1 => ?_) (fun c_1 => ?_)
      · have nc_1 : n ≤ c := mi_le hn rfl (by omega) (by omega) c_1
        refine lv_iload_n hx hb dX5_thick_31 rfl (lv_at hl 1 rfl) ?_
        exact W.iret (v := (thk (σ (w + 2)) c)) hx hb hr (fun t ht hW => ⟨_, rfl, by rw [show c = n by omega], ht⟩) (fun q hq => by cases hq) dX5_thick_32
      · have nc_1 : c < n := mi_nle hn rfl (by omega) (by omega) c_1
        refine lv_iload_n hx hb dX5_thick_12 rfl (lv_at hl 1 rfl) ?_
        refine lv_aload_n hx hb dX5_thick_13 rfl (lv_at hl 2 rfl) ?_
        refine mg_ref hx hb hts in_X5 hown hE hP w (xl_o hA hw) (shX_o hw) rfl 5 rfl (by decide) (hts _ q122) (fun _ h9 => h9) dX5_thick_14 ?_
        refine lv_iconst (v := 4) hx hb dX5_thick_17 (by decide) ?_
        refine lv_iload_n hx hb dX5_thick_18 rfl (lv_at hl 0 rfl) ?_
        refine lv_imul hx hb dX5_thick_19 ?_
        refine lv_iconst (v := 3) hx hb dX5_thick_20 (by decide) ?_
        refine lv_iadd hx hb dX5_thick_21 ?_
        refine mg_ild hx hb hE hP (w + 2) (xl_c hA hw) (shX_c hw) (4 * c + 3) (by omega) (mi_add (mi_mul rfl rfl) rfl) (by decide) dX5_thick_22 ?_
        refine lv_iadd hx hb dX5_thick_23 ?_
        refine lv_istore_n (lv' := [(1, .int ((thk (σ (w + 2)) c) + σ (w + 2) (4 * c + 3))), (2, .int (nI c)), (0, .ref (ad w))]) hx hb dX5_thick_24 rfl hl (by decide) rfl (fun ls hl => ?_)
        refine lv_iinc (v := (nI (c + 1))) (lv' := [(2, .int (nI (c + 1))), (1, .int ((thk (σ (w + 2)) c) + σ (w + 2) (4 * c + 3))), (0, .ref (ad w))]) hx hb dX5_thick_25 hl (k := 1) rfl (mi_add rfl rfl) (by decide) rfl (fun ls hl => ?_)
        refine lv_goto (tgt := 4) hx hb dX5_thick_28 (by decide) ?_
        exact ih4  (c + 1) (by omega) (by omega) ls (lv_sub hl [0, 1, 2] rfl)
  exact lp4 (n - 0 + 1) 0 (by omega) (by omega) ls (lv_sub hl [0, 1, 2] rfl)
set_option maxHeartbeats 4000000 in
set_option maxRecDepth 100000 in
theorem mt_X5_put (l : Launch) (D : va_G) (dA : Nat → ClassId) (rr : Nat → Option Nat) (xs : Nat → mSh) (ad : Nat → Nat) (N : Nat) (hA : xA ad N) (σ : mMem) (w : Nat) (hw : xw w) (a1 a2 a3 a4 : Int32) (n : Nat) (hn : σ w 6 = nI n) (hn8 : n < 8) : Met l yX5_put (ws_ yX5_put cX5_put 5 none) ({ frames := 0, cells := 0, slots := 0, locals := 0 }) (va_Pc [.ref (ad w), .int a1, .int a2, .int a3, .int a4] (mPre D dA (shX rr xs) ad N σ)) (va_Qv (fun (u : mMem) => u = (mup (mup (mup (mup (mup σ (w + 2) (4 * n) a1) (w + 2) (4 * n + 1) a2) (w + 2) (4 * n + 2) a3) (w + 2) (4 * n + 3) a4) w 6 (nI (n + 1)))) (mB D dA (shX rr xs) ad N) (mAd ad N)) 0 0 (mAd ad N) := by
  refine Met.ofW (cc := cX5_put) (maxL := 5) (ret := none) (by decide) rfl ?_
  intro pp ee ss mm args below meth cd s₁ B hml hv
  obtain ⟨rfl, hP, hE⟩ := hv
  have hx := B.exec
  have hb := B.bytes
  have hr := B.returns
  have hts := atoms_spec (ws := ws_ yX5_put cX5_put 5 none) B.pre
  have hts : ∀ w ∈ lw_all, w.before _ ss = true := fun w h => hts w (List.mem_cons_of_mem _ h)
  have hown : ss.vm.findClass RX5 = some mm.cls := findClass_of_methodNamed B.named
  have hlocks := B.notSynchronized
  have hD := hA.2.self
  have hS : va_S (mAd ad N) ss.heap ss.heap [] := va_S.rf
  have hNN := hA.1
  obtain ⟨hw1, hw2, hw3⟩ := id hw
  have hl := lv_entry ([.ref (ad w), .int a1, .int a2, .int a3, .int a4]) (n := 5) (Nat.le_of_ble_eq_true rfl)
  rw [lg_entry_eq]
  generalize (lg_sl ([.ref (ad w), .int a1, .int a2, .int a3, .int a4]) ++ List.replicate (5 - (lg_sl ([.ref (ad w), .int a1, .int a2, .int a3, .int a4])).length) Slot.unset).toArray = ls at hl ⊢
  have hl : lv_has ls 5 [(0, .ref (ad w)), (1, .int a1), (2, .int a2), (3, .int a3), (4, .int a4)] := hl
  refine lv_aload_n hx hb dX5_put_0 rfl (lv_at hl 0 rfl) ?_
  refine mg_ref hx hb hts in_X5 hown hE hP w (xl_o hA hw) (shX_o hw) rfl 5 rfl (by decide) (hts _ q122) (fun _ h9 => h9) dX5_put_1 ?_
  refine lv_iconst (v := 4) hx hb dX5_put_4 (by decide) ?_
  refine lv_aload_n hx hb dX5_put_5 rfl (lv_at hl 0 rfl) ?_
  refine mg_get hx hb hts in_X5 hown hE hP w (xl_o hA hw) (shX_o hw) rfl 6 rfl (by decide) (hts _ q126) (fun _ h9 => h9) dX5_put_6 ?_
  refine lv_imul hx hb dX5_put_9 ?_
  refine lv_iload_n hx hb dX5_put_10 rfl (lv_at hl 1 rfl) ?_
  refine mg_ist (v := a1) hx hb hE hD hP hS (w + 2) (xl_c hA hw) (shX_c hw) (4 * n) (by omega) (mi_mul rfl hn) (by decide) dX5_put_11 (fun H locs hP hS => ?_)
  refine lv_aload_n hx hb dX5_put_12 rfl (lv_at hl 0 rfl) ?_
  refine mg_ref hx hb hts in_X5 hown hE hP w (xl_o hA hw) (shX_o hw) rfl 5 rfl (by decide) (hts _ q122) (fun _ h9 => h9) dX5_put_13 ?_
  refine lv_iconst (v := 4) hx hb dX5_put_16 (by decide) ?_
  refine lv_aload_n hx hb dX5_put_17 rfl (lv_at hl 0 rfl) ?_
  refine mg_get hx hb hts in_X5 hown hE hP w (xl_o hA hw) (shX_o hw) rfl 6 rfl (by decide) (hts _ q126) (fun _ h9 => h9) dX5_put_18 ?_
  refine lv_rwi (mup_ne1 (by omega)) ?_
  refine lv_imul hx hb dX5_put_21 ?_
  refine lv_iconst (v := 1) hx hb dX5_put_22 (by decide) ?_
  refine lv_iadd hx hb dX5_put_23 ?_
  refine lv_iload_n hx hb dX5_put_24 rfl (lv_at hl 2 rfl) ?_
  refine mg_ist (v := a2) hx hb hE hD hP hS (w + 2) (xl_c hA hw) (shX_c hw) (4 * n + 1) (by omega) (mi_add (mi_mul rfl hn) rfl) (by decide) dX5_put_25 (fun H locs hP hS => ?_)
  refine lv_aload_n hx hb dX5_put_26 rfl (lv_at hl 0 rfl) ?_
  refine mg_ref hx hb hts in_X5 hown hE hP w (xl_o hA hw) (shX_o hw) rfl 5 rfl (by decide) (hts _ q122) (fun _ h9 => h9) dX5_put_27 ?_
  refine lv_iconst (v := 4) hx hb dX5_put_30 (by decide) ?_
  refine lv_aload_n hx hb dX5_put_31 rfl (lv_at hl 0 rfl) ?_
  refine mg_get hx hb hts in_X5 hown hE hP w (xl_o hA hw) (shX_o hw) rfl 6 rfl (by decide) (hts _ q126) (fun _ h9 => h9) dX5_put_32 ?_
  refine lv_rwi ((mup_ne1 (by omega)).trans (mup_ne1 (by omega))) ?_
  refine lv_imul hx hb dX5_put_35 ?_
  refine lv_iconst (v := 2) hx hb dX5_put_36 (by decide) ?_
  refine lv_iadd hx hb dX5_put_37 ?_
  refine lv_iload_n hx hb dX5_put_38 rfl (lv_at hl 3 rfl) ?_
  refine mg_ist (v := a3) hx hb hE hD hP hS (w + 2) (xl_c hA hw) (shX_c hw) (4 * n + 2) (by omega) (mi_add (mi_mul rfl hn) rfl) (by decide) dX5_put_39 (fun H locs hP hS => ?_)
  refine lv_aload_n hx hb dX5_put_40 rfl (lv_at hl 0 rfl) ?_
  refine mg_ref hx hb hts in_X5 hown hE hP w (xl_o hA hw) (shX_o hw) rfl 5 rfl (by decide) (hts _ q122) (fun _ h9 => h9) dX5_put_41 ?_
  refine lv_iconst (v := 4) hx hb dX5_put_44 (by decide) ?_
  refine lv_aload_n hx hb dX5_put_45 rfl (lv_at hl 0 rfl) ?_
  refine mg_get hx hb hts in_X5 hown hE hP w (xl_o hA hw) (shX_o hw) rfl 6 rfl (by decide) (hts _ q126) (fun _ h9 => h9) dX5_put_46 ?_
  refine lv_rwi ((mup_ne1 (by omega)).trans ((mup_ne1 (by omega)).trans (mup_ne1 (by omega)))) ?_
  refine lv_imul hx hb dX5_put_49 ?_
  refine lv_iconst (v := 3) hx hb dX5_put_50 (by decide) ?_
  refine lv_iadd hx hb dX5_put_51 ?_
  refine lv_iload hx hb dX5_put_52 (lv_at hl 4 rfl) ?_
  refine mg_ist (v := a4) hx hb hE hD hP hS (w + 2) (xl_c hA hw) (shX_c hw) (4 * n + 3) (by omega) (mi_add (mi_mul rfl hn) rfl) (by decide) dX5_put_54 (fun H locs hP hS => ?_)
  refine lv_aload_n hx hb dX5_put_55 rfl (lv_at hl 0 rfl) ?_
  refine lv_dup hx hb dX5_put_56 rfl ?_
  refine mg_get hx hb hts in_X5 hown hE hP w (xl_o hA hw) (shX_o hw) rfl 6 rfl (by decide) (hts _ q126) (fun _ h9 => h9) dX5_put_57 ?_
  refine lv_rwi ((mup_ne1 (by omega)).trans ((mup_ne1 (by omega)).trans ((mup_ne1 (by omega)).trans (mup_ne1 (by omega))))) ?_
  refine lv_iconst (v := 1) hx hb dX5_put_60 (by decide) ?_
  refine lv_iadd hx hb dX5_put_61 ?_
  refine lv_rwi (mi_add hn rfl) ?_
  refine mg_put (v := (nI (n + 1))) (ty := .int) hx hb hts in_X5 tyX5 tyX5_ok nmX5 hown hE hD hP hS w (xl_o hA hw) (shX_o hw) rfl 6 rfl (by decide) (hts _ q126) (fun _ h9 => h9) rfl (by decide +kernel) rfl rfl dX5_put_62 (fun H locs hP hS => ?_)
  exact W.vret hx hb hr (fun t ht hW => ⟨⟨_, rfl, rfl, mB.of ht hP⟩, hS.F ht⟩) hS.2.2 dX5_put_65
set_option maxHeartbeats 4000000 in
set_option maxRecDepth 100000 in
theorem mt_X5_remove (l : Launch) (D : va_G) (dA : Nat → ClassId) (rr : Nat → Option Nat) (xs : Nat → mSh) (ad : Nat → Nat) (N : Nat) (hA : xA ad N) (σ : mMem) (w : Nat) (hw : xw w) (x : Int32) (c : Nat) (hx0 : x = nI c) (n : Nat) (hn : σ w 6 = nI n) (hn8 : n ≤ 8) (hc : c < n) : Met l yX5_remove (ws_ yX5_remove cX5_remove 2 none) ({ frames := 1, cells := 0, slots := 0, locals := 60 }) (va_Pc [.ref (ad w), .int x] (mPre D dA (shX rr xs) ad N σ)) (va_Qv (fun (u : mMem) => u = rmv σ w n c) (mB D dA (shX rr xs) ad N) (mAd ad N)) 0 0 (mAd ad N) := by
  refine Met.ofW (cc := cX5_remove) (maxL := 2) (ret := none) (by decide) rfl ?_
  intro pp ee ss mm args below meth cd s₁ B hml hv
  obtain ⟨rfl, hP, hE⟩ := hv
  have hx := B.exec
  have hb := B.bytes
  have hr := B.returns
  have hts := atoms_spec (ws := ws_ yX5_remove cX5_remove 2 none) B.pre
  have hts : ∀ w ∈ lw_all, w.before _ ss = true := fun w h => hts w (List.mem_cons_of_mem _ h)
  have hown : ss.vm.findClass RX5 = some mm.cls := findClass_of_methodNamed B.named
  have hlocks := B.notSynchronized
  have hD := hA.2.self
  have hS : va_S (mAd ad N) ss.heap ss.heap [] := va_S.rf
  have hNN := hA.1
  obtain ⟨hw1, hw2, hw3⟩ := id hw
  have hl := lv_entry ([.ref (ad w), .int x]) (n := 2) (Nat.le_of_ble_eq_true rfl)
  rw [lg_entry_eq]
  generalize (lg_sl ([.ref (ad w), .int x]) ++ List.replicate (2 - (lg_sl ([.ref (ad w), .int x])).length) Slot.unset).toArray = ls at hl ⊢
  have hl : lv_has ls 2 [(0, .ref (ad w)), (1, .int x)] := hl
  refine lv_aload_n hx hb dX5_remove_0 rfl (lv_at hl 0 rfl) ?_
  refine lv_dup hx hb dX5_remove_1 rfl ?_
  refine mg_get hx hb hts in_X5 hown hE hP w (xl_o hA hw) (shX_o hw) rfl 6 rfl (by decide) (hts _ q126) (fun _ h9 => h9) dX5_remove_2 ?_
  refine lv_iconst (v := 1) hx hb dX5_remove_5 (by decide) ?_
  refine lv_isub hx hb dX5_remove_6 ?_
  refine lv_rwi (mi_sub (a := n) (b := 1) hn rfl (by omega)) ?_
  refine mg_put (v := (nI (n - 1))) (ty := .int) hx hb hts in_X5 tyX5 tyX5_ok nmX5 hown hE hD hP hS w (xl_o hA hw) (shX_o hw) rfl 6 rfl (by decide) (hts _ q126) (fun _ h9 => h9) rfl (by decide +kernel) rfl rfl dX5_remove_7 (fun H locs hP hS => ?_)
  refine lv_aload_n hx hb dX5_remove_10 rfl (lv_at hl 0 rfl) ?_
  refine mg_ref hx hb hts in_X5 hown hE hP w (xl_o hA hw) (shX_o hw) rfl 5 rfl (by decide) (hts _ q122) (fun _ h9 => h9) dX5_remove_11 ?_
  refine lv_iconst (v := 4) hx hb dX5_remove_14 (by decide) ?_
  refine lv_iload_n hx hb dX5_remove_15 rfl (lv_at hl 1 rfl) ?_
  refine lv_iconst (v := 1) hx hb dX5_remove_16 (by decide) ?_
  refine lv_iadd hx hb dX5_remove_17 ?_
  refine lv_imul hx hb dX5_remove_18 ?_
  refine lv_aload_n hx hb dX5_remove_19 rfl (lv_at hl 0 rfl) ?_
  refine mg_ref hx hb hts in_X5 hown hE hP w (xl_o hA hw) (shX_o hw) rfl 5 rfl (by decide) (hts _ q122) (fun _ h9 => h9) dX5_remove_20 ?_
  refine lv_iconst (v := 4) hx hb dX5_remove_23 (by decide) ?_
  refine lv_iload_n hx hb dX5_remove_24 rfl (lv_at hl 1 rfl) ?_
  refine lv_imul hx hb dX5_remove_25 ?_
  refine lv_iconst (v := 4) hx hb dX5_remove_26 (by decide) ?_
  refine lv_aload_n hx hb dX5_remove_27 rfl (lv_at hl 0 rfl) ?_
  refine mg_get hx hb hts in_X5 hown hE hP w (xl_o hA hw) (shX_o hw) rfl 6 rfl (by decide) (hts _ q126) (fun _ h9 => h9) dX5_remove_28 ?_
  refine lv_rwi (mup_self _ _ _ _) ?_
  refine lv_iload_n hx hb dX5_remove_31 rfl (lv_at hl 1 rfl) ?_
  refine lv_isub hx hb dX5_remove_32 ?_
  refine lv_imul hx hb dX5_remove_33 ?_
  refine mg_cpy hx hb (by rw [hml]; exact hl.1.symm) hown (hts _ q480) (hts _ q445) (hts _ q444) (hts _ q57) hE hD hP hS (w + 2) (w + 2) (xl_c hA hw) (xl_c hA hw) (shX_c hw) (shX_c hw) (4 * (c + 1)) (4 * c) (4 * ((n - 1) - c)) (mi_mul rfl (mi_add hx0 rfl)) (mi_mul rfl hx0) (mi_mul rfl (mi_sub (a := n - 1) (b := c) rfl hx0 (by omega))) (by omega) (by omega) (by decide) (by decide) (Nat.le_of_ble_eq_true rfl) (Nat.le_of_ble_eq_true rfl) dX5_remove_34 (fun H locs hP hS => ?_)
  rw [show (mup σ w 6 (nI (n - 1))) (w + 2) = σ (w + 2) from mup_row (by omega)] at hP
  exact W.vret hx hb hr (fun t ht hW => ⟨⟨_, rfl, rfl, mB.of ht hP⟩, hS.F ht⟩) hS.2.2 dX5_remove_37
set_option maxHeartbeats 4000000 in
set_option maxRecDepth 100000 in
theorem mt_X5_lay (l : Launch) (D : va_G) (dA : Nat → ClassId) (rr : Nat → Option Nat) (xs : Nat → mSh) (ad : Nat → Nat) (N : Nat) (hA : xA ad N) (σ : mMem) (w : Nat) (hw : xw w) (a1 a2 a3 : Int32) : Met l yX5_lay (ws_ yX5_lay cX5_lay 5 none) ({ frames := 0, cells := 0, slots := 0, locals := 0 }) (va_Pc [.ref (ad w), .int a1, .int a2, .int a3] (mPre D dA (shX rr xs) ad N σ)) (va_Qv (fun (u : mMem) => u = (va_up (mup (mup (mup (mup (mup σ w 0 a1) w 1 a2) w 2 a3) w 3 (-4)) w 6 0) (w + 1) (zt (σ (w + 1)) 5))) (mB D dA (shX rr xs) ad N) (mAd ad N)) 0 0 (mAd ad N) := by
  refine Met.ofW (cc := cX5_lay) (maxL := 5) (ret := none) (by decide) rfl ?_
  intro pp ee ss mm args below meth cd s₁ B hml hv
  obtain ⟨rfl, hP, hE⟩ := hv
  have hx := B.exec
  have hb := B.bytes
  have hr := B.returns
  have hts := atoms_spec (ws := ws_ yX5_lay cX5_lay 5 none) B.pre
  have hts : ∀ w ∈ lw_all, w.before _ ss = true := fun w h => hts w (List.mem_cons_of_mem _ h)
  have hown : ss.vm.findClass RX5 = some mm.cls := findClass_of_methodNamed B.named
  have hlocks := B.notSynchronized
  have hD := hA.2.self
  have hS : va_S (mAd ad N) ss.heap ss.heap [] := va_S.rf
  have hNN := hA.1
  obtain ⟨hw1, hw2, hw3⟩ := id hw
  have hl := lv_entry ([.ref (ad w), .int a1, .int a2, .int a3]) (n := 5) (Nat.le_of_ble_eq_true rfl)
  rw [lg_entry_eq]
  generalize (lg_sl ([.ref (ad w), .int a1, .int a2, .int a3]) ++ List.replicate (5 - (lg_sl ([.ref (ad w), .int a1, .int a2, .int a3])).length) Slot.unset).toArray = ls at hl ⊢
  have hl : lv_has ls 5 [(0, .ref (ad w)), (1, .int a1), (2, .int a2), (3, .int a3)] := hl
  refine lv_aload_n hx hb dX5_lay_0 rfl (lv_at hl 0 rfl) ?_
  refine lv_iload_n hx hb dX5_lay_1 rfl (lv_at hl 1 rfl) ?_
  refine mg_put (v := a1) (ty := .int) hx hb hts in_X5 tyX5 tyX5_ok nmX5 hown hE hD hP hS w (xl_o hA hw) (shX_o hw) rfl 0 rfl (by decide) (hts _ q110) (fun _ h9 => h9) rfl (by decide +kernel) rfl rfl dX5_lay_2 (fun H locs hP hS => ?_)
  refine lv_aload_n hx hb dX5_lay_5 rfl (lv_at hl 0 rfl) ?_
  refine lv_iload_n hx hb dX5_lay_6 rfl (lv_at hl 2 rfl) ?_
  refine mg_put (v := a2) (ty := .int) hx hb hts in_X5 tyX5 tyX5_ok nmX5 hown hE hD hP hS w (xl_o hA hw) (shX_o hw) rfl 1 rfl (by decide) (hts _ q113) (fun _ h9 => h9) rfl (by decide +kernel) rfl rfl dX5_lay_7 (fun H locs hP hS => ?_)
  refine lv_aload_n hx hb dX5_lay_10 rfl (lv_at hl 0 rfl) ?_
  refine lv_iload_n hx hb dX5_lay_11 rfl (lv_at hl 3 rfl) ?_
  refine mg_put (v := a3) (ty := .int) hx hb hts in_X5 tyX5 tyX5_ok nmX5 hown hE hD hP hS w (xl_o hA hw) (shX_o hw) rfl 2 rfl (by decide) (hts _ q115) (fun _ h9 => h9) rfl (by decide +kernel) rfl rfl dX5_lay_12 (fun H locs hP hS => ?_)
  refine lv_aload_n hx hb dX5_lay_15 rfl (lv_at hl 0 rfl) ?_
  refine lv_bipush (v := (-4)) hx hb dX5_lay_16 (by decide) ?_
  refine mg_put (v := (-4)) (ty := .int) hx hb hts in_X5 tyX5 tyX5_ok nmX5 hown hE hD hP hS w (xl_o hA hw) (shX_o hw) rfl 3 rfl (by decide) (hts _ q117) (fun _ h9 => h9) rfl (by decide +kernel) rfl rfl dX5_lay_18 (fun H locs hP hS => ?_)
  refine lv_aload_n hx hb dX5_lay_21 rfl (lv_at hl 0 rfl) ?_
  refine lv_iconst (v := 0) hx hb dX5_lay_22 (by decide) ?_
  refine mg_put (v := 0) (ty := .int) hx hb hts in_X5 tyX5 tyX5_ok nmX5 hown hE hD hP hS w (xl_o hA hw) (shX_o hw) rfl 6 rfl (by decide) (hts _ q126) (fun _ h9 => h9) rfl (by decide +kernel) rfl rfl dX5_lay_23 (fun H locs hP hS => ?_)
  refine lv_iconst (v := 0) hx hb dX5_lay_26 (by decide) ?_
  refine lv_istore (lv' := [(4, .int 0), (0, .ref (ad w)), (1, .int a1), (2, .int a2), (3, .int a3)]) hx hb dX5_lay_27 hl (by decide) rfl (fun ls hl => ?_)
  have lp29 : ∀ (fu : Nat) (c : Nat) (_ : c ≤ 5) (_ : 5 - c < fu) (H : Heap) (locs : List Loc) (_ : va_P D xCl (mW dA (shX rr xs) ad N (va_up (mup (mup (mup (mup (mup σ w 0 a1) w 1 a2) w 2 a3) w 3 (-4)) w 6 0) (w + 1) (zt (σ (w + 1)) c))) H) (_ : va_S (mAd ad N) ss.heap H locs) (ls : Array Slot) (_ : lv_has ls 5 [(4, .int (nI c)), (0, .ref (ad w)), (1, .int a1), (2, .int a2), (3, .int a3)]), W pp l ee (headSpec (ws_ yX5_lay cX5_lay 5 none) ({ frames := 0, cells := 0, slots := 0, locals := 0 })).room ss mm ([.ref (ad w), .int a1, .int a2, .int a3] : List Value).toArray below meth cd H locs 0 0 (MQ below (va_Qv (fun (u : mMem) => u = (va_up (mup (mup (mup (mup (mup σ w 0 a1) w 1 a2) w 2 a3) w 3 (-4)) w 6 0) (w + 1) (zt (σ (w + 1)) 5))) (mB D dA (shX rr xs) ad N) (mAd ad N)) ([.ref (ad w), .int a1, .int a2, .int a3] : List Value).toArray ss 0 0 (mAd ad N)) (F0 mm 29 ls []) := by
    intro fu
    induction fu with
    | zero => intro c hc hfu; exact absurd hfu (Nat.not_lt_zero _)
    | succ fu ih29 =>
      intro c hc hfu H locs hP hS ls hl
      refine lv_iload hx hb dX5_lay_29 (lv_at hl 0 rfl) ?_
      refine lv_iconst (v := 5) hx hb dX5_lay_31 (by decide) ?_
      refine lv_icmp_ge (tgt := 49) hx hb dX5_lay_32 (by decide) (fun c_1 => ?_) (fun c_1 => ?_)
      · have nc_1 : 5 ≤ c := mi_le rfl rfl (by omega) (by omega) c_1
        exact W.vret hx hb hr (fun t ht hW => ⟨⟨_, rfl, by rw [show c = 5 by omega], mB.of ht hP⟩, hS.F ht⟩) hS.2.2 dX5_lay_49
      · have nc_1 : c < 5 := mi_nle rfl rfl (by omega) (by omega) c_1
        refine lv_aload_n hx hb dX5_lay_35 rfl (lv_at hl 1 rfl) ?_
        refine mg_ref hx hb hts in_X5 hown hE hP w (xl_o hA hw) (shX_o hw) rfl 4 rfl (by decide) (hts _ q120) (fun _ h9 => h9) dX5_lay_36 ?_
        refine lv_iload hx hb dX5_lay_39 (lv_at hl 0 rfl) ?_
        refine lv_iconst (v := 0) hx hb dX5_lay_41 (by decide) ?_
        refine mg_ist (v := 0) hx hb hE hD hP hS (w + 1) (xl_t hA hw) (shX_t hw) c (by omega) rfl (by decide) dX5_lay_42 (fun H locs hP hS => ?_)
        refine lv_iinc (v := (nI (c + 1))) (lv' := [(4, .int (nI (c + 1))), (0, .ref (ad w)), (1, .int a1), (2, .int a2), (3, .int a3)]) hx hb dX5_lay_43 hl (k := 0) rfl (mi_add rfl rfl) (by decide) rfl (fun ls hl => ?_)
        refine lv_goto (tgt := 29) hx hb dX5_lay_46 (by decide) ?_
        exact ih29  (c + 1) (by omega) (by omega) _ _ (m_eq (mup_up _ _ _ _ _) hP) hS ls (lv_sub hl [0, 1, 2, 3, 4] rfl)
  exact lp29 (5 - 0 + 1) 0 (by omega) (by omega) _ _ (m_eq ((va_up_id ((mup_row (by omega)).trans ((mup_row (by omega)).trans ((mup_row (by omega)).trans ((mup_row (by omega)).trans (mup_row (by omega))))))).symm) hP) hS ls (lv_sub hl [0, 1, 2, 3, 4] rfl)
set_option maxHeartbeats 4000000 in
set_option maxRecDepth 100000 in
theorem mt_X5_takeFrom (l : Launch) (D : va_G) (dA : Nat → ClassId) (rr : Nat → Option Nat) (xs : Nat → mSh) (ad : Nat → Nat) (N : Nat) (hA : xA ad N) (σ : mMem) (w : Nat) (hw : xw w) (v : Nat) (hv : xw v) (hne : w ≠ v) : Met l yX5_takeFrom (ws_ yX5_takeFrom cX5_takeFrom 2 none) ({ frames := 1, cells := 0, slots := 0, locals := 60 }) (va_Pc [.ref (ad w), .ref (ad v)] (mPre D dA (shX rr xs) ad N σ)) (va_Qv (fun (u : mMem) => u = tkf σ w v) (mB D dA (shX rr xs) ad N) (mAd ad N)) 0 0 (mAd ad N) := by
  refine Met.ofW (cc := cX5_takeFrom) (maxL := 2) (ret := none) (by decide) rfl ?_
  intro pp ee ss mm args below meth cd s₁ B hml hv
  obtain ⟨rfl, hP, hE⟩ := hv
  have hx := B.exec
  have hb := B.bytes
  have hr := B.returns
  have hts := atoms_spec (ws := ws_ yX5_takeFrom cX5_takeFrom 2 none) B.pre
  have hts : ∀ w ∈ lw_all, w.before _ ss = true := fun w h => hts w (List.mem_cons_of_mem _ h)
  have hown : ss.vm.findClass RX5 = some mm.cls := findClass_of_methodNamed B.named
  have hlocks := B.notSynchronized
  have hD := hA.2.self
  have hS : va_S (mAd ad N) ss.heap ss.heap [] := va_S.rf
  have hNN := hA.1
  obtain ⟨hw1, hw2, hw3⟩ := id hw
  obtain ⟨hv1, hv2, hv3⟩ := id hv
  have hl := lv_entry ([.ref (ad w), .ref (ad v)]) (n := 2) (Nat.le_of_ble_eq_true rfl)
  rw [lg_entry_eq]
  generalize (lg_sl ([.ref (ad w), .ref (ad v)]) ++ List.replicate (2 - (lg_sl ([.ref (ad w), .ref (ad v)])).length) Slot.unset).toArray = ls at hl ⊢
  have hl : lv_has ls 2 [(0, .ref (ad w)), (1, .ref (ad v))] := hl
  refine lv_aload_n hx hb dX5_takeFrom_0 rfl (lv_at hl 0 rfl) ?_
  refine lv_aload_n hx hb dX5_takeFrom_1 rfl (lv_at hl 1 rfl) ?_
  refine mg_get hx hb hts in_X5 hown hE hP v (xl_o hA hv) (shX_o hv) rfl 0 rfl (by decide) (hts _ q110) (fun _ h9 => h9) dX5_takeFrom_2 ?_
  refine mg_put (v := σ v 0) (ty := .int) hx hb hts in_X5 tyX5 tyX5_ok nmX5 hown hE hD hP hS w (xl_o hA hw) (shX_o hw) rfl 0 rfl (by decide) (hts _ q110) (fun _ h9 => h9) rfl (by decide +kernel) rfl rfl dX5_takeFrom_5 (fun H locs hP hS => ?_)
  refine lv_aload_n hx hb dX5_takeFrom_8 rfl (lv_at hl 0 rfl) ?_
  refine lv_aload_n hx hb dX5_takeFrom_9 rfl (lv_at hl 1 rfl) ?_
  refine mg_get hx hb hts in_X5 hown hE hP v (xl_o hA hv) (shX_o hv) rfl 1 rfl (by decide) (hts _ q113) (fun _ h9 => h9) dX5_takeFrom_10 ?_
  refine lv_rwi (mup_ne1 (by omega)) ?_
  refine mg_put (v := σ v 1) (ty := .int) hx hb hts in_X5 tyX5 tyX5_ok nmX5 hown hE hD hP hS w (xl_o hA hw) (shX_o hw) rfl 1 rfl (by decide) (hts _ q113) (fun _ h9 => h9) rfl (by decide +kernel) rfl rfl dX5_takeFrom_13 (fun H locs hP hS => ?_)
  refine lv_aload_n hx hb dX5_takeFrom_16 rfl (lv_at hl 0 rfl) ?_
  refine lv_aload_n hx hb dX5_takeFrom_17 rfl (lv_at hl 1 rfl) ?_
  refine mg_get hx hb hts in_X5 hown hE hP v (xl_o hA hv) (shX_o hv) rfl 2 rfl (by decide) (hts _ q115) (fun _ h9 => h9) dX5_takeFrom_18 ?_
  refine lv_rwi ((mup_ne1 (by omega)).trans (mup_ne1 (by omega))) ?_
  refine mg_put (v := σ v 2) (ty := .int) hx hb hts in_X5 tyX5 tyX5_ok nmX5 hown hE hD hP hS w (xl_o hA hw) (shX_o hw) rfl 2 rfl (by decide) (hts _ q115) (fun _ h9 => h9) rfl (by decide +kernel) rfl rfl dX5_takeFrom_21 (fun H locs hP hS => ?_)
  refine lv_aload_n hx hb dX5_takeFrom_24 rfl (lv_at hl 0 rfl) ?_
  refine lv_aload_n hx hb dX5_takeFrom_25 rfl (lv_at hl 1 rfl) ?_
  refine mg_get hx hb hts in_X5 hown hE hP v (xl_o hA hv) (shX_o hv) rfl 3 rfl (by decide) (hts _ q117) (fun _ h9 => h9) dX5_takeFrom_26 ?_
  refine lv_rwi ((mup_ne1 (by omega)).trans ((mup_ne1 (by omega)).trans (mup_ne1 (by omega)))) ?_
  refine mg_put (v := σ v 3) (ty := .int) hx hb hts in_X5 tyX5 tyX5_ok nmX5 hown hE hD hP hS w (xl_o hA hw) (shX_o hw) rfl 3 rfl (by decide) (hts _ q117) (fun _ h9 => h9) rfl (by decide +kernel) rfl rfl dX5_takeFrom_29 (fun H locs hP hS => ?_)
  refine lv_aload_n hx hb dX5_takeFrom_32 rfl (lv_at hl 0 rfl) ?_
  refine lv_aload_n hx hb dX5_takeFrom_33 rfl (lv_at hl 1 rfl) ?_
  refine mg_get hx hb hts in_X5 hown hE hP v (xl_o hA hv) (shX_o hv) rfl 6 rfl (by decide) (hts _ q126) (fun _ h9 => h9) dX5_takeFrom_34 ?_
  refine lv_rwi ((mup_ne1 (by omega)).trans ((mup_ne1 (by omega)).trans ((mup_ne1 (by omega)).trans (mup_ne1 (by omega))))) ?_
  refine mg_put (v := σ v 6) (ty := .int) hx hb hts in_X5 tyX5 tyX5_ok nmX5 hown hE hD hP hS w (xl_o hA hw) (shX_o hw) rfl 6 rfl (by decide) (hts _ q126) (fun _ h9 => h9) rfl (by decide +kernel) rfl rfl dX5_takeFrom_37 (fun H locs hP hS => ?_)
  refine lv_aload_n hx hb dX5_takeFrom_40 rfl (lv_at hl 1 rfl) ?_
  refine mg_ref hx hb hts in_X5 hown hE hP v (xl_o hA hv) (shX_o hv) rfl 4 rfl (by decide) (hts _ q120) (fun _ h9 => h9) dX5_takeFrom_41 ?_
  refine lv_iconst (v := 0) hx hb dX5_takeFrom_44 (by decide) ?_
  refine lv_aload_n hx hb dX5_takeFrom_45 rfl (lv_at hl 0 rfl) ?_
  refine mg_ref hx hb hts in_X5 hown hE hP w (xl_o hA hw) (shX_o hw) rfl 4 rfl (by decide) (hts _ q120) (fun _ h9 => h9) dX5_takeFrom_46 ?_
  refine lv_iconst (v := 0) hx hb dX5_takeFrom_49 (by decide) ?_
  refine lv_iconst (v := 5) hx hb dX5_takeFrom_50 (by decide) ?_
  refine mg_cpy hx hb (by rw [hml]; exact hl.1.symm) hown (hts _ q480) (hts _ q445) (hts _ q444) (hts _ q57) hE hD hP hS (v + 1) (w + 1) (xl_t hA hv) (xl_t hA hw) (shX_t hv) (shX_t hw) 0 0 5 rfl rfl rfl (by omega) (by omega) (by decide) (by decide) (Nat.le_of_ble_eq_true rfl) (Nat.le_of_ble_eq_true rfl) dX5_takeFrom_51 (fun H locs hP hS => ?_)
  rw [show (mup (mup (mup (mup (mup σ w 0 (σ v 0)) w 1 (σ v 1)) w 2 (σ v 2)) w 3 (σ v 3)) w 6 (σ v 6)) (v + 1) = σ (v + 1) from (mup_row (by omega)).trans ((mup_row (by omega)).trans ((mup_row (by omega)).trans ((mup_row (by omega)).trans (mup_row (by omega)))))] at hP
  rw [show (mup (mup (mup (mup (mup σ w 0 (σ v 0)) w 1 (σ v 1)) w 2 (σ v 2)) w 3 (σ v 3)) w 6 (σ v 6)) (w + 1) = σ (w + 1) from (mup_row (by omega)).trans ((mup_row (by omega)).trans ((mup_row (by omega)).trans ((mup_row (by omega)).trans (mup_row (by omega)))))] at hP
  refine lv_aload_n hx hb dX5_takeFrom_54 rfl (lv_at hl 1 rfl) ?_
  refine mg_ref hx hb hts in_X5 hown hE hP v (xl_o hA hv) (shX_o hv) rfl 5 rfl (by decide) (hts _ q122) (fun _ h9 => h9) dX5_takeFrom_55 ?_
  refine lv_iconst (v := 0) hx hb dX5_takeFrom_58 (by decide) ?_
  refine lv_aload_n hx hb dX5_takeFrom_59 rfl (lv_at hl 0 rfl) ?_
  refine mg_ref hx hb hts in_X5 hown hE hP w (xl_o hA hw) (shX_o hw) rfl 5 rfl (by decide) (hts _ q122) (fun _ h9 => h9) dX5_takeFrom_60 ?_
  refine lv_iconst (v := 0) hx hb dX5_takeFrom_63 (by decide) ?_
  refine lv_bipush (v := 32) hx hb dX5_takeFrom_64 (by decide) ?_
  refine mg_cpy hx hb (by rw [hml]; exact hl.1.symm) hown (hts _ q480) (hts _ q445) (hts _ q444) (hts _ q57) hE hD hP hS (v + 2) (w + 2) (xl_c hA hv) (xl_c hA hw) (shX_c hv) (shX_c hw) 0 0 32 rfl rfl rfl (by omega) (by omega) (by decide) (by decide) (Nat.le_of_ble_eq_true rfl) (Nat.le_of_ble_eq_true rfl) dX5_takeFrom_66 (fun H locs hP hS => ?_)
  rw [show (va_up (mup (mup (mup (mup (mup σ w 0 (σ v 0)) w 1 (σ v 1)) w 2 (σ v 2)) w 3 (σ v 3)) w 6 (σ v 6)) (w + 1) (va_cpy (σ (v + 1)) (σ (w + 1)) 0 0 5)) (v + 2) = σ (v + 2) from (va_up_ne _ _ (by omega)).trans ((mup_row (by omega)).trans ((mup_row (by omega)).trans ((mup_row (by omega)).trans ((mup_row (by omega)).trans (mup_row (by omega))))))] at hP
  rw [show (va_up (mup (mup (mup (mup (mup σ w 0 (σ v 0)) w 1 (σ v 1)) w 2 (σ v 2)) w 3 (σ v 3)) w 6 (σ v 6)) (w + 1) (va_cpy (σ (v + 1)) (σ (w + 1)) 0 0 5)) (w + 2) = σ (w + 2) from (va_up_ne _ _ (by omega)).trans ((mup_row (by omega)).trans ((mup_row (by omega)).trans ((mup_row (by omega)).trans ((mup_row (by omega)).trans (mup_row (by omega))))))] at hP
  exact W.vret hx hb hr (fun t ht hW => ⟨⟨_, rfl, rfl, mB.of ht hP⟩, hS.F ht⟩) hS.2.2 dX5_takeFrom_69
set_option maxHeartbeats 4000000 in
set_option maxRecDepth 100000 in
theorem mt_X5_bears (l : Launch) (D : va_G) (dA : Nat → ClassId) (rr : Nat → Option Nat) (xs : Nat → mSh) (ad : Nat → Nat) (N : Nat) (hA : xA ad N) (σ : mMem) (w : Nat) (hw : xw w) (h : Int32) (n : Nat) (hn : σ w 6 = nI n) (hn8 : n ≤ 8) : Met l yX5_bears (ws_ yX5_bears cX5_bears 2 (some .boolean)) ({ frames := 1, cells := 0, slots := 0, locals := 22 }) (va_Pc [.ref (ad w), .int h] (mPre D dA (shX rr xs) ad N σ)) (vp_Si (fun r : Int32 => r = bi (thk (σ (w + 2)) n ≤ mx0 (σ w 2 - h)))) 0 0 (fun _ => False) := by
  refine Met.ofW (cc := cX5_bears) (maxL := 2) (ret := (some .boolean)) (by decide) rfl ?_
  intro pp ee ss mm args below meth cd s₁ B hml hv
  obtain ⟨rfl, hP, hE⟩ := hv
  have hx := B.exec
  have hb := B.bytes
  have hr := B.returns
  have hts := atoms_spec (ws := ws_ yX5_bears cX5_bears 2 (some .boolean)) B.pre
  have hts : ∀ w ∈ lw_all, w.before _ ss = true := fun w h => hts w (List.mem_cons_of_mem _ h)
  have hown : ss.vm.findClass RX5 = some mm.cls := findClass_of_methodNamed B.named
  have hlocks := B.notSynchronized
  have hNN := hA.1
  obtain ⟨hw1, hw2, hw3⟩ := id hw
  have hl := lv_entry ([.ref (ad w), .int h]) (n := 2) (Nat.le_of_ble_eq_true rfl)
  rw [lg_entry_eq]
  generalize (lg_sl ([.ref (ad w), .int h]) ++ List.replicate (2 - (lg_sl ([.ref (ad w), .int h])).length) Slot.unset).toArray = ls at hl ⊢
  have hl : lv_has ls 2 [(0, .ref (ad w)), (1, .int h)] := hl
  refine lv_aload_n hx hb dX5_bears_0 rfl (lv_at hl 0 rfl) ?_
  refine vp_callSi (W.runV (As := []) (rest := []) ⟨hx, hb, hml, hown, hts⟩ (mt_X5_thick l D dA rr xs ad N hA σ w hw n hn (by omega)) (cwV 0 hts (lw_V q507 q360 q361 q50 q362) rfl rfl rfl (by decide +kernel) ⟨Nat.le_of_ble_eq_true rfl, Nat.le_of_ble_eq_true rfl⟩) ⟨mPre.blind, m_recv hE hP w (xl_o hA hw) (shX_o hw) rfl, mPre.at hE hP⟩ rfl rfl hl.1 rfl (lv_room (Nat.le_of_ble_eq_true rfl)) dX5_bears_1 ⟨Nat.le_of_ble_eq_true rfl, Nat.le_of_ble_eq_true rfl⟩) (fun r_1 hr_1 => ?_)
  subst hr_1
  refine lv_iconst (v := 0) hx hb dX5_bears_4 (by decide) ?_
  refine lv_aload_n hx hb dX5_bears_5 rfl (lv_at hl 0 rfl) ?_
  refine mg_get hx hb hts in_X5 hown hE hP w (xl_o hA hw) (shX_o hw) rfl 2 rfl (by decide) (hts _ q115) (fun _ h9 => h9) dX5_bears_6 ?_
  refine lv_iload_n hx hb dX5_bears_9 rfl (lv_at hl 1 rfl) ?_
  refine lv_isub hx hb dX5_bears_10 ?_
  refine va_mmax hx hb (by rw [hml]; exact hl.1.symm) hown (hts _ q496) (hts _ q497) (hts _ q56) (hts _ q498) (Nat.le_of_ble_eq_true rfl) (Nat.le_of_ble_eq_true rfl) (Nat.le_of_ble_eq_true rfl) (Nat.le_of_ble_eq_true rfl) dX5_bears_11 ?_
  refine lv_icmp_gt (tgt := 21) hx hb dX5_bears_14 (by decide) (fun c_2 => ?_) (fun c_2 => ?_)
  · skip
    refine lv_iconst (v := 0) hx hb dX5_bears_21 (by decide) ?_
    exact W.zret (v := 0) hx hb hr rfl (fun t ht hW => ⟨_, rfl, bi_0 (Int32.not_le.mpr c_2), ht⟩) (fun q hq => by cases hq) dX5_bears_22
  · skip
    refine lv_iconst (v := 1) hx hb dX5_bears_17 (by decide) ?_
    refine lv_goto (tgt := 22) hx hb dX5_bears_18 (by decide) ?_
    exact W.zret (v := 1) hx hb hr rfl (fun t ht hW => ⟨_, rfl, bi_1 (Int32.not_lt.mp c_2), ht⟩) (fun q hq => by cases hq) dX5_bears_22
set_option maxHeartbeats 4000000 in
set_option maxRecDepth 100000 in
theorem mt_X5_pays (l : Launch) (D : va_G) (dA : Nat → ClassId) (rr : Nat → Option Nat) (xs : Nat → mSh) (ad : Nat → Nat) (N : Nat) (hA : xA ad N) (σ : mMem) (w : Nat) (hw : xw w) (x : Int32) (c : Nat) (hx0 : x = nI c) (n : Nat) (hn : σ w 6 = nI n) (hn8 : n ≤ 8) (hc : c < n) : Met l yX5_pays (ws_ yX5_pays cX5_pays 3 (some .boolean)) ({ frames := 2, cells := 0, slots := 0, locals := 81 }) (va_Pc [.ref (ad w), .int x] (mPre D dA (shX rr xs) ad N σ)) (va_Qi (fun (r : Int32) (u : mMem) => (σ (w + 2) (4 * c + 1) ≤ σ w 0 ∧ r = 1 ∧ u = rmv (mup σ w 0 (σ w 0 - σ (w + 2) (4 * c + 1))) w n c) ∨ (¬ σ (w + 2) (4 * c + 1) ≤ σ w 0 ∧ r = 0 ∧ u = σ)) (mB D dA (shX rr xs) ad N) (mAd ad N)) 0 0 (mAd ad N) := by
  refine Met.ofW (cc := cX5_pays) (maxL := 3) (ret := (some .boolean)) (by decide) rfl ?_
  intro pp ee ss mm args below meth cd s₁ B hml hv
  obtain ⟨rfl, hP, hE⟩ := hv
  have hx := B.exec
  have hb := B.bytes
  have hr := B.returns
  have hts := atoms_spec (ws := ws_ yX5_pays cX5_pays 3 (some .boolean)) B.pre
  have hts : ∀ w ∈ lw_all, w.before _ ss = true := fun w h => hts w (List.mem_cons_of_mem _ h)
  have hown : ss.vm.findClass RX5 = some mm.cls := findClass_of_methodNamed B.named
  have hlocks := B.notSynchronized
  have hD := hA.2.self
  have hS : va_S (mAd ad N) ss.heap ss.heap [] := va_S.rf
  have hNN := hA.1
  obtain ⟨hw1, hw2, hw3⟩ := id hw
  have hl := lv_entry ([.ref (ad w), .int x]) (n := 3) (Nat.le_of_ble_eq_true rfl)
  rw [lg_entry_eq]
  generalize (lg_sl ([.ref (ad w), .int x]) ++ List.replicate (3 - (lg_sl ([.ref (ad w), .int x])).length) Slot.unset).toArray = ls at hl ⊢
  have hl : lv_has ls 3 [(0, .ref (ad w)), (1, .int x)] := hl
  refine lv_aload_n hx hb dX5_pays_0 rfl (lv_at hl 0 rfl) ?_
  refine mg_get hx hb hts in_X5 hown hE hP w (xl_o hA hw) (shX_o hw) rfl 0 rfl (by decide) (hts _ q110) (fun _ h9 => h9) dX5_pays_1 ?_
  refine lv_aload_n hx hb dX5_pays_4 rfl (lv_at hl 0 rfl) ?_
  refine lv_iload_n hx hb dX5_pays_5 rfl (lv_at hl 1 rfl) ?_
  refine vp_callSi (W.runV (As := [.int x]) (rest := [.int (σ w 0)]) ⟨hx, hb, hml, hown, hts⟩ (mt_X5_amount l D dA rr xs ad N hA σ w hw x c hx0 (by omega)) (cwV 1 hts (lw_V q475 q371 q372 q50 q373) rfl rfl rfl (by decide +kernel) ⟨Nat.le_of_ble_eq_true rfl, Nat.le_of_ble_eq_true rfl⟩) ⟨mPre.blind, m_recv hE hP w (xl_o hA hw) (shX_o hw) rfl, mPre.at hE hP⟩ rfl rfl hl.1 rfl (lv_room (Nat.le_of_ble_eq_true rfl)) dX5_pays_6 ⟨Nat.le_of_ble_eq_true rfl, Nat.le_of_ble_eq_true rfl⟩) (fun r_1 hr_1 => ?_)
  subst hr_1
  refine lv_icmp_lt (tgt := 16) hx hb dX5_pays_9 (by decide) (fun c_2 => ?_) (fun c_2 => ?_)
  · skip
    refine lv_iconst (v := 0) hx hb dX5_pays_16 (by decide) ?_
    refine lv_istore_n (lv' := [(2, .int 0), (0, .ref (ad w)), (1, .int x)]) hx hb dX5_pays_17 rfl hl (by decide) rfl (fun ls hl => ?_)
    refine lv_iload_n hx hb dX5_pays_18 rfl (lv_at hl 0 rfl) ?_
    refine lv_if_eq (tgt := 41) hx hb dX5_pays_19 (by decide) (fun c_3 => ?_) (fun c_3 => ?_)
    · skip
      refine lv_iload_n hx hb dX5_pays_41 rfl (lv_at hl 0 rfl) ?_
      exact W.zret (v := 0) hx hb hr rfl (fun t ht hW => ⟨⟨_, _, rfl, Or.inr ⟨Int32.not_le.mpr c_2, rfl, rfl⟩, mB.of ht hP⟩, hS.F ht⟩) hS.2.2 dX5_pays_42
    · skip
      exact absurd c_3 (by decide)
  · skip
    refine lv_iconst (v := 1) hx hb dX5_pays_12 (by decide) ?_
    refine lv_goto (tgt := 17) hx hb dX5_pays_13 (by decide) ?_
    refine lv_istore_n (lv' := [(2, .int 1), (0, .ref (ad w)), (1, .int x)]) hx hb dX5_pays_17 rfl hl (by decide) rfl (fun ls hl => ?_)
    refine lv_iload_n hx hb dX5_pays_18 rfl (lv_at hl 0 rfl) ?_
    refine lv_if_eq (tgt := 41) hx hb dX5_pays_19 (by decide) (fun c_4 => ?_) (fun c_4 => ?_)
    · skip
      exact absurd c_4 (by decide)
    · skip
      refine lv_aload_n hx hb dX5_pays_22 rfl (lv_at hl 1 rfl) ?_
      refine lv_dup hx hb dX5_pays_23 rfl ?_
      refine mg_get hx hb hts in_X5 hown hE hP w (xl_o hA hw) (shX_o hw) rfl 0 rfl (by decide) (hts _ q110) (fun _ h9 => h9) dX5_pays_24 ?_
      refine lv_aload_n hx hb dX5_pays_27 rfl (lv_at hl 1 rfl) ?_
      refine lv_iload_n hx hb dX5_pays_28 rfl (lv_at hl 2 rfl) ?_
      refine vp_callSi (W.runV (As := [.int x]) (rest := [.int (σ w 0), .ref (ad w)]) ⟨hx, hb, hml, hown, hts⟩ (mt_X5_amount l D dA rr xs ad N hA σ w hw x c hx0 (by omega)) (cwV 1 hts (lw_V q475 q371 q372 q50 q373) rfl rfl rfl (by decide +kernel) ⟨Nat.le_of_ble_eq_true rfl, Nat.le_of_ble_eq_true rfl⟩) ⟨mPre.blind, m_recv hE hP w (xl_o hA hw) (shX_o hw) rfl, mPre.at hE hP⟩ rfl rfl hl.1 rfl (lv_room (Nat.le_of_ble_eq_true rfl)) dX5_pays_29 ⟨Nat.le_of_ble_eq_true rfl, Nat.le_of_ble_eq_true rfl⟩) (fun r_5 hr_5 => ?_)
      subst hr_5
      refine lv_isub hx hb dX5_pays_32 ?_
      refine mg_put (v := (σ w 0 - σ (w + 2) (4 * c + 1))) (ty := .int) hx hb hts in_X5 tyX5 tyX5_ok nmX5 hown hE hD hP hS w (xl_o hA hw) (shX_o hw) rfl 0 rfl (by decide) (hts _ q110) (fun _ h9 => h9) rfl (by decide +kernel) rfl rfl dX5_pays_33 (fun H locs hP hS => ?_)
      refine lv_aload_n hx hb dX5_pays_36 rfl (lv_at hl 1 rfl) ?_
      refine lv_iload_n hx hb dX5_pays_37 rfl (lv_at hl 2 rfl) ?_
      refine va_callv (va_runV (As := [.int x]) (rest := []) ⟨hx, hb, hml, hown, hts⟩ (mt_X5_remove l D dA rr xs ad N hA (mup σ w 0 (σ w 0 - σ (w + 2) (4 * c + 1))) w hw x c hx0 n ((mup_ne2 (by omega)).trans hn) (by omega) (by omega)) (cwV 1 hts (lw_V q476 q477 q478 q50 q479) rfl rfl rfl (by decide +kernel) ⟨Nat.le_of_ble_eq_true rfl, Nat.le_of_ble_eq_true rfl⟩) ⟨mPre.blind, m_recv hE hP w (xl_o hA hw) (shX_o hw) rfl, mPre.at hE hP⟩ rfl rfl hl.1 rfl (lv_room (Nat.le_of_ble_eq_true rfl)) dX5_pays_38 ⟨Nat.le_of_ble_eq_true rfl, Nat.le_of_ble_eq_true rfl⟩) hS (fun q _ h => h) (fun q h => h) (fun ur_6 tr_6 H locs ht h0 hr_6 hB h1 h2 hS => ?_)
      subst hr_6
      have hP := mB.get ht hB
      have hP : va_P D xCl (mW dA (shX rr xs) ad N (va_up (mup (mup σ w 0 (σ w 0 - σ (w + 2) (4 * c + 1))) w 6 (nI (n - 1))) (w + 2) (va_cpy ((mup σ w 0 (σ w 0 - σ (w + 2) (4 * c + 1))) (w + 2)) ((mup σ w 0 (σ w 0 - σ (w + 2) (4 * c + 1))) (w + 2)) (4 * (c + 1)) (4 * c) (4 * (n - 1 - c))))) H := hP
      refine lv_iload_n hx hb dX5_pays_41 rfl (lv_at hl 0 rfl) ?_
      exact W.zret (v := 1) hx hb hr rfl (fun t ht hW => ⟨⟨_, _, rfl, Or.inl ⟨Int32.not_lt.mp c_2, rfl, rfl⟩, mB.of ht hP⟩, hS.F ht⟩) hS.2.2 dX5_pays_42
set_option maxHeartbeats 4000000 in
set_option maxRecDepth 100000 in
theorem mt_X5_night (l : Launch) (D : va_G) (dA : Nat → ClassId) (rr : Nat → Option Nat) (xs : Nat → mSh) (ad : Nat → Nat) (N : Nat) (hA : xA ad N) (σ : mMem) (w : Nat) (hw : xw w) (n : Nat) (hn : σ w 6 = nI n) (hn8 : n ≤ 8) (ld : Nat → Nat) (hld : ∀ c, c < n → σ (w + 2) (4 * c) = nI (ld c) ∧ ld c < 5) : Met l yX5_night (ws_ yX5_night cX5_night 3 none) ({ frames := 1, cells := 0, slots := 0, locals := 21 }) (va_Pc [.ref (ad w)] (mPre D dA (shX rr xs) ad N σ)) (va_Qv (fun (u : mMem) => u = ngt σ w n ld) (mB D dA (shX rr xs) ad N) (mAd ad N)) 0 0 (mAd ad N) := by
  refine Met.ofW (cc := cX5_night) (maxL := 3) (ret := none) (by decide) rfl ?_
  intro pp ee ss mm args below meth cd s₁ B hml hv
  obtain ⟨rfl, hP, hE⟩ := hv
  have hx := B.exec
  have hb := B.bytes
  have hr := B.returns
  have hts := atoms_spec (ws := ws_ yX5_night cX5_night 3 none) B.pre
  have hts : ∀ w ∈ lw_all, w.before _ ss = true := fun w h => hts w (List.mem_cons_of_mem _ h)
  have hown : ss.vm.findClass RX5 = some mm.cls := findClass_of_methodNamed B.named
  have hlocks := B.notSynchronized
  have hD := hA.2.self
  have hS : va_S (mAd ad N) ss.heap ss.heap [] := va_S.rf
  have hNN := hA.1
  obtain ⟨hw1, hw2, hw3⟩ := id hw
  have hl := lv_entry ([.ref (ad w)]) (n := 3) (Nat.le_of_ble_eq_true rfl)
  rw [lg_entry_eq]
  generalize (lg_sl ([.ref (ad w)]) ++ List.replicate (3 - (lg_sl ([.ref (ad w)])).length) Slot.unset).toArray = ls at hl ⊢
  have hl : lv_has ls 3 [(0, .ref (ad w))] := hl
  refine lv_iconst (v := 0) hx hb dX5_night_0 (by decide) ?_
  refine lv_istore_n (lv' := [(1, .int 0), (0, .ref (ad w))]) hx hb dX5_night_1 rfl hl (by decide) rfl (fun ls hl => ?_)
  refine lv_iconst (v := 0) hx hb dX5_night_2 (by decide) ?_
  refine lv_istore_n (lv' := [(2, .int 0), (1, .int 0), (0, .ref (ad w))]) hx hb dX5_night_3 rfl hl (by decide) rfl (fun ls hl => ?_)
  have lp4 : ∀ (fu : Nat) (c : Nat) (_ : c ≤ n) (_ : n - c < fu) (H : Heap) (locs : List Loc) (_ : va_P D xCl (mW dA (shX rr xs) ad N (va_up σ (w + 2) (nco (σ (w + 2)) c))) H) (_ : va_S (mAd ad N) ss.heap H locs) (ls : Array Slot) (_ : lv_has ls 3 [(2, .int (nI c)), (1, .int (nask (σ (w + 1)) ld c)), (0, .ref (ad w))]), W pp l ee (headSpec (ws_ yX5_night cX5_night 3 none) ({ frames := 1, cells := 0, slots := 0, locals := 21 })).room ss mm ([.ref (ad w)] : List Value).toArray below meth cd H locs 0 0 (MQ below (va_Qv (fun (u : mMem) => u = ngt σ w n ld) (mB D dA (shX rr xs) ad N) (mAd ad N)) ([.ref (ad w)] : List Value).toArray ss 0 0 (mAd ad N)) (F0 mm 4 ls []) := by
    intro fu
    induction fu with
    | zero => intro c hc hfu; exact absurd hfu (Nat.not_lt_zero _)
    | succ fu ih4 =>
      intro c hc hfu H locs hP hS ls hl
      refine lv_iload_n hx hb dX5_night_4 rfl (lv_at hl 0 rfl) ?_
      refine lv_aload_n hx hb dX5_night_5 rfl (lv_at hl 2 rfl) ?_
      refine mg_get hx hb hts in_X5 hown hE hP w (xl_o hA hw) (shX_o hw) rfl 6 rfl (by decide) (hts _ q126) (fun _ h9 => h9) dX5_night_6 ?_
      refine lv_rwi (mv_row (by omega)) ?_
      refine lv_icmp_ge (tgt := 71) hx hb dX5_night_9 (by decide) (fun c_1 => ?_) (fun c_1 => ?_)
      · have nc_1 : n ≤ c := mi_le hn rfl (by omega) (by omega) c_1
        refine lv_aload_n hx hb dX5_night_71 rfl (lv_at hl 2 rfl) ?_
        refine lv_ldc hx hb hown (hts _ q493) dX5_night_72 ?_
        refine lv_iconst (v := 0) hx hb dX5_night_74 (by decide) ?_
        refine lv_aload_n hx hb dX5_night_75 rfl (lv_at hl 2 rfl) ?_
        refine mg_get hx hb hts in_X5 hown hE hP w (xl_o hA hw) (shX_o hw) rfl 0 rfl (by decide) (hts _ q110) (fun _ h9 => h9) dX5_night_76 ?_
        refine lv_rwi (mv_row (by omega)) ?_
        refine lv_aload_n hx hb dX5_night_79 rfl (lv_at hl 2 rfl) ?_
        refine mg_get hx hb hts in_X5 hown hE hP w (xl_o hA hw) (shX_o hw) rfl 1 rfl (by decide) (hts _ q113) (fun _ h9 => h9) dX5_night_80 ?_
        refine lv_rwi (mv_row (by omega)) ?_
        refine lv_iadd hx hb dX5_night_83 ?_
        refine lv_iload_n hx hb dX5_night_84 rfl (lv_at hl 1 rfl) ?_
        refine lv_isub hx hb dX5_night_85 ?_
        refine va_mmax hx hb (by rw [hml]; exact hl.1.symm) hown (hts _ q496) (hts _ q497) (hts _ q56) (hts _ q498) (Nat.le_of_ble_eq_true rfl) (Nat.le_of_ble_eq_true rfl) (Nat.le_of_ble_eq_true rfl) (Nat.le_of_ble_eq_true rfl) dX5_night_86 ?_
        refine va_mmin hx hb (by rw [hml]; exact hl.1.symm) hown (hts _ q494) (hts _ q376) (hts _ q56) (hts _ q377) (Nat.le_of_ble_eq_true rfl) (Nat.le_of_ble_eq_true rfl) (Nat.le_of_ble_eq_true rfl) (Nat.le_of_ble_eq_true rfl) dX5_night_89 ?_
        refine mg_put (v := (if (if 0 < ((σ w 0 + σ w 1) - (nask (σ (w + 1)) ld c)) then ((σ w 0 + σ w 1) - (nask (σ (w + 1)) ld c)) else 0) < 999999 then (if 0 < ((σ w 0 + σ w 1) - (nask (σ (w + 1)) ld c)) then ((σ w 0 + σ w 1) - (nask (σ (w + 1)) ld c)) else 0) else 999999)) (ty := .int) hx hb hts in_X5 tyX5 tyX5_ok nmX5 hown hE hD hP hS w (xl_o hA hw) (shX_o hw) rfl 0 rfl (by decide) (hts _ q110) (fun _ h9 => h9) rfl (by decide +kernel) rfl rfl dX5_night_92 (fun H locs hP hS => ?_)
        exact W.vret hx hb hr (fun t ht hW => ⟨⟨_, rfl, by rw [show c = n by omega]; rfl, mB.of ht hP⟩, hS.F ht⟩) hS.2.2 dX5_night_95
      · have nc_1 : c < n := mi_nle hn rfl (by omega) (by omega) c_1
        refine lv_aload_n hx hb dX5_night_12 rfl (lv_at hl 2 rfl) ?_
        refine mg_ref hx hb hts in_X5 hown hE hP w (xl_o hA hw) (shX_o hw) rfl 5 rfl (by decide) (hts _ q122) (fun _ h9 => h9) dX5_night_13 ?_
        refine lv_iconst (v := 4) hx hb dX5_night_16 (by decide) ?_
        refine lv_iload_n hx hb dX5_night_17 rfl (lv_at hl 0 rfl) ?_
        refine lv_imul hx hb dX5_night_18 ?_
        refine lv_iconst (v := 1) hx hb dX5_night_19 (by decide) ?_
        refine lv_iadd hx hb dX5_night_20 ?_
        refine lv_ldc hx hb hown (hts _ q493) dX5_night_21 ?_
        refine lv_aload_n hx hb dX5_night_23 rfl (lv_at hl 2 rfl) ?_
        refine lv_iload_n hx hb dX5_night_24 rfl (lv_at hl 0 rfl) ?_
        refine vp_callSi (W.runV (As := [.int (nI c)]) (rest := [.int 999999, .int ((4 * (nI c)) + 1), .ref (ad (w + 2))]) ⟨hx, hb, hml, hown, hts⟩ (mt_X5_amount l D dA rr xs ad N hA (va_up σ (w + 2) (nco (σ (w + 2)) c)) w hw (nI c) c rfl (by omega)) (cwV 1 hts (lw_V q475 q371 q372 q50 q373) rfl rfl rfl (by decide +kernel) ⟨Nat.le_of_ble_eq_true rfl, Nat.le_of_ble_eq_true rfl⟩) ⟨mPre.blind, m_recv hE hP w (xl_o hA hw) (shX_o hw) rfl, mPre.at hE hP⟩ rfl rfl hl.1 rfl (lv_room (Nat.le_of_ble_eq_true rfl)) dX5_night_25 ⟨Nat.le_of_ble_eq_true rfl, Nat.le_of_ble_eq_true rfl⟩) (fun r_2 hr_2 => ?_)
        subst hr_2
        refine lv_rwi (congrFun (va_up_self _ _ _) _) ?_
        refine lv_aload_n hx hb dX5_night_28 rfl (lv_at hl 2 rfl) ?_
        refine lv_iload_n hx hb dX5_night_29 rfl (lv_at hl 0 rfl) ?_
        refine vp_callSi (W.runV (As := [.int (nI c)]) (rest := [.int ((nco (σ (w + 2)) c) (4 * c + 1)), .int 999999, .int ((4 * (nI c)) + 1), .ref (ad (w + 2))]) ⟨hx, hb, hml, hown, hts⟩ (mt_X5_amount l D dA rr xs ad N hA (va_up σ (w + 2) (nco (σ (w + 2)) c)) w hw (nI c) c rfl (by omega)) (cwV 1 hts (lw_V q475 q371 q372 q50 q373) rfl rfl rfl (by decide +kernel) ⟨Nat.le_of_ble_eq_true rfl, Nat.le_of_ble_eq_true rfl⟩) ⟨mPre.blind, m_recv hE hP w (xl_o hA hw) (shX_o hw) rfl, mPre.at hE hP⟩ rfl rfl hl.1 rfl (lv_room (Nat.le_of_ble_eq_true rfl)) dX5_night_30 ⟨Nat.le_of_ble_eq_true rfl, Nat.le_of_ble_eq_true rfl⟩) (fun r_3 hr_3 => ?_)
        subst hr_3
        refine lv_rwi (congrFun (va_up_self _ _ _) _) ?_
        refine lv_aload_n hx hb dX5_night_33 rfl (lv_at hl 2 rfl) ?_
        refine mg_ref hx hb hts in_X5 hown hE hP w (xl_o hA hw) (shX_o hw) rfl 5 rfl (by decide) (hts _ q122) (fun _ h9 => h9) dX5_night_34 ?_
        refine lv_iconst (v := 4) hx hb dX5_night_37 (by decide) ?_
        refine lv_iload_n hx hb dX5_night_38 rfl (lv_at hl 0 rfl) ?_
        refine lv_imul hx hb dX5_night_39 ?_
        refine lv_iconst (v := 2) hx hb dX5_night_40 (by decide) ?_
        refine lv_iadd hx hb dX5_night_41 ?_
        refine mg_ild hx hb hE hP (w + 2) (xl_c hA hw) (shX_c hw) (4 * c + 2) (by omega) (mi_add (mi_mul rfl rfl) rfl) (by decide) dX5_night_42 ?_
        refine lv_rwi (congrFun (va_up_self _ _ _) _) ?_
        refine lv_imul hx hb dX5_night_43 ?_
        refine lv_bipush (v := 100) hx hb dX5_night_44 (by decide) ?_
        refine lv_idiv hx hb dX5_night_46 (by decide) ?_
        refine lv_iadd hx hb dX5_night_47 ?_
        refine va_mmin hx hb (by rw [hml]; exact hl.1.symm) hown (hts _ q494) (hts _ q376) (hts _ q56) (hts _ q377) (Nat.le_of_ble_eq_true rfl) (Nat.le_of_ble_eq_true rfl) (Nat.le_of_ble_eq_true rfl) (Nat.le_of_ble_eq_true rfl) dX5_night_48 ?_
        refine mg_ist (v := (if ((nco (σ (w + 2)) c) (4 * c + 1) + (((nco (σ (w + 2)) c) (4 * c + 1) * (nco (σ (w + 2)) c) (4 * c + 2)) / 100)) < 999999 then ((nco (σ (w + 2)) c) (4 * c + 1) + (((nco (σ (w + 2)) c) (4 * c + 1) * (nco (σ (w + 2)) c) (4 * c + 2)) / 100)) else 999999)) hx hb hE hD hP hS (w + 2) (xl_c hA hw) (shX_c hw) (4 * c + 1) (by omega) (mi_add (mi_mul rfl rfl) rfl) (by decide) dX5_night_51 (fun H locs hP hS => ?_)
        refine lv_iload_n hx hb dX5_night_52 rfl (lv_at hl 1 rfl) ?_
        refine lv_aload_n hx hb dX5_night_53 rfl (lv_at hl 2 rfl) ?_
        refine mg_ref hx hb hts in_X5 hown hE hP w (xl_o hA hw) (shX_o hw) rfl 4 rfl (by decide) (hts _ q120) (fun _ h9 => h9) dX5_night_54 ?_
        refine lv_aload_n hx hb dX5_night_57 rfl (lv_at hl 2 rfl) ?_
        refine lv_iload_n hx hb dX5_night_58 rfl (lv_at hl 0 rfl) ?_
        refine vp_callSi (W.runV (As := [.int (nI c)]) (rest := [.ref (ad (w + 1)), .int (nask (σ (w + 1)) ld c)]) ⟨hx, hb, hml, hown, hts⟩ (mt_X5_lender l D dA rr xs ad N hA (mup (va_up σ (w + 2) (nco (σ (w + 2)) c)) (w + 2) (4 * c + 1) (if ((nco (σ (w + 2)) c) (4 * c + 1) + (((nco (σ (w + 2)) c) (4 * c + 1) * (nco (σ (w + 2)) c) (4 * c + 2)) / 100)) < 999999 then ((nco (σ (w + 2)) c) (4 * c + 1) + (((nco (σ (w + 2)) c) (4 * c + 1) * (nco (σ (w + 2)) c) (4 * c + 2)) / 100)) else 999999)) w hw (nI c) c rfl (by omega)) (cwV 1 hts (lw_V q495 q367 q368 q50 q369) rfl rfl rfl (by decide +kernel) ⟨Nat.le_of_ble_eq_true rfl, Nat.le_of_ble_eq_true rfl⟩) ⟨mPre.blind, m_recv hE hP w (xl_o hA hw) (shX_o hw) rfl, mPre.at hE hP⟩ rfl rfl hl.1 rfl (lv_room (Nat.le_of_ble_eq_true rfl)) dX5_night_59 ⟨Nat.le_of_ble_eq_true rfl, Nat.le_of_ble_eq_true rfl⟩) (fun r_4 hr_4 => ?_)
        subst hr_4
        refine lv_rwi ((mup_ne2 (by omega)).trans (congrFun (va_up_self _ _ _) _)) ?_
        refine mg_ild hx hb hE hP (w + 1) (xl_t hA hw) (shX_t hw) (ld c) (hld c (by omega)).2 ((nco_0 _ _ _).trans (hld c (by omega)).1) (by decide) dX5_night_62 ?_
        refine lv_rwi ((mup_ne1 (by omega)).trans (mv_row (by omega))) ?_
        refine lv_iadd hx hb dX5_night_63 ?_
        refine lv_istore_n (lv' := [(1, .int ((nask (σ (w + 1)) ld c) + σ (w + 1) (ld c))), (2, .int (nI c)), (0, .ref (ad w))]) hx hb dX5_night_64 rfl hl (by decide) rfl (fun ls hl => ?_)
        refine lv_iinc (v := (nI (c + 1))) (lv' := [(2, .int (nI (c + 1))), (1, .int ((nask (σ (w + 1)) ld c) + σ (w + 1) (ld c))), (0, .ref (ad w))]) hx hb dX5_night_65 hl (k := 1) rfl (mi_add rfl rfl) (by decide) rfl (fun ls hl => ?_)
        refine lv_goto (tgt := 4) hx hb dX5_night_68 (by decide) ?_
        exact ih4  (c + 1) (by omega) (by omega) _ _ (m_eq (mup_up _ _ _ _ _) hP) hS ls (lv_sub hl [0, 1, 2] rfl)
  exact lp4 (n - 0 + 1) 0 (by omega) (by omega) _ _ (m_eq ((va_up_id rfl).symm) hP) hS ls (lv_sub hl [0, 1, 2] rfl)
