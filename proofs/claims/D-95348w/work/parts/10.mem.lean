/-! MEMORY BY PLACES: a world of N places; place i lies at the cell ad i, has the shape sh i and holds the numbers σ i -/
abbrev mSp : Type := Option (Option Nat)
abbrev mSh : Type := (Nat × List mSp) ⊕ ((Nat × Nat) ⊕ (Nat × Nat × (Nat → Option Nat)))
abbrev mMem : Type := Nat → Nat → Int32
def mfv (ad : Nat → Nat) (f : Nat → Int32) (k : Nat) (sp : mSp) : Value := match sp with
  | none => .int (f k)
  | some r => va_re ad r
def mcell (dA : Nat → ClassId) (ad : Nat → Nat) (x : mSh) (f : Nat → Int32) : va_E := match x with
  | .inl o => .inr (o.1, o.2.mapIdx (mfv ad f))
  | .inr (.inl a) => .inl (dA a.1, a.2, .inl f)
  | .inr (.inr a) => .inl (dA a.1, a.2.1, .inr (.inr (.inr (.inr (fun i => (a.2.2 i).map ad)))))
def mW (dA : Nat → ClassId) (sh : Nat → mSh) (ad : Nat → Nat) (N : Nat) (σ : mMem) : va_W := (List.range N).map (fun i => (ad i, mcell dA ad (sh i) (σ i)))
def mup (σ : mMem) (i k : Nat) (v : Int32) : mMem := va_up σ i (upd (σ i) k v)
theorem mup_at (σ : mMem) (i k : Nat) (v : Int32) (a b : Nat) : mup σ i k v a b = if a = i ∧ b = k then v else σ a b := by
  unfold mup va_up upd
  by_cases h : a = i
  · subst h; by_cases h2 : b = k <;> simp [h2]
  · simp [h]
theorem mup_self (σ : mMem) (i k : Nat) (v : Int32) : mup σ i k v i k = v := by simp [mup_at]
theorem mup_ne1 {σ : mMem} {i k : Nat} {v : Int32} {a b : Nat} (h : a ≠ i) : mup σ i k v a b = σ a b := by simp [mup_at, h]
theorem mup_ne2 {σ : mMem} {i k : Nat} {v : Int32} {a b : Nat} (h : b ≠ k) : mup σ i k v a b = σ a b := by simp [mup_at, h]
theorem mup_row {σ : mMem} {i k : Nat} {v : Int32} {a : Nat} (h : a ≠ i) : mup σ i k v a = σ a := by simp [mup, va_up, h]
theorem mup_rowS (σ : mMem) (i k : Nat) (v : Int32) : mup σ i k v i = upd (σ i) k v := by simp [mup, va_up]
theorem mW_get {dA : Nat → ClassId} {sh : Nat → mSh} {ad : Nat → Nat} {N : Nat} {σ : mMem} {i : Nat} (hi : i < N) : (mW dA sh ad N σ)[i]? = some (ad i, mcell dA ad (sh i) (σ i)) := by
  simp [mW, hi]
theorem mW_lt {dA : Nat → ClassId} {sh : Nat → mSh} {ad : Nat → Nat} {N : Nat} {σ : mMem} {i : Nat} {q : Nat × va_E} (h : (mW dA sh ad N σ)[i]? = some q) : i < N ∧ q = (ad i, mcell dA ad (sh i) (σ i)) := by
  have hi : i < N := by
    have := (List.getElem?_eq_some_iff.mp h).1
    simpa [mW] using this
  rw [mW_get hi] at h
  exact ⟨hi, (Option.some.inj h).symm⟩
theorem mW_set {dA : Nat → ClassId} {sh sh' : Nat → mSh} {ad : Nat → Nat} {N : Nat} {σ σ' : mMem} {i : Nat} {e : va_E} (hi : i < N) (he : e = mcell dA ad (sh' i) (σ' i)) (ho : ∀ j, j ≠ i → sh' j = sh j ∧ σ' j = σ j) : (mW dA sh ad N σ).set i (ad i, e) = mW dA sh' ad N σ' := by
  apply List.ext_getElem?
  intro j
  rw [List.getElem?_set]
  by_cases hj : i = j
  · subst hj
    rw [mW_get hi, he]
    simp [mW, hi]
  · rw [if_neg hj]
    by_cases hN : j < N
    · rw [mW_get hN, mW_get hN, (ho j (fun h => hj h.symm)).1, (ho j (fun h => hj h.symm)).2]
    · simp [mW, hN]
/-- the places lie apart, in A -/
def mD (A : Nat → Prop) (ad : Nat → Nat) (N : Nat) : Prop := (∀ i j, i < N → j < N → ad i = ad j → i = j) ∧ ∀ i, i < N → A (ad i)
theorem mD.to {A : Nat → Prop} {dA : Nat → ClassId} {sh : Nat → mSh} {ad : Nat → Nat} {N : Nat} {σ : mMem} (h : mD A ad N) : va_D A (mW dA sh ad N σ) := by
  refine ⟨fun i j p q hi hj e => ?_, fun k q hk => ?_⟩
  · obtain ⟨h1, rfl⟩ := mW_lt hi
    obtain ⟨h2, rfl⟩ := mW_lt hj
    exact h.1 i j h1 h2 e
  · obtain ⟨h1, rfl⟩ := mW_lt hk
    exact h.2 k h1
def mAd (ad : Nat → Nat) (N : Nat) : Nat → Prop := fun q => ∃ i, i < N ∧ q = ad i
theorem mD.self {A : Nat → Prop} {ad : Nat → Nat} {N : Nat} (h : mD A ad N) : mD (mAd ad N) ad N := ⟨h.1, fun i hi => ⟨i, hi, rfl⟩⟩
theorem mD.sub {A : Nat → Prop} {ad : Nat → Nat} {N : Nat} (h : mD A ad N) : ∀ q, mAd ad N q → A q := fun q ⟨i, hi, e⟩ => by rw [e]; exact h.2 i hi
/-! the classes and array kinds of this claim -/
def TX1 : u_T := fun _ => ("", "", "", false)
abbrev xCl : List vw_C := [(RX0, TX0, 25), (RX1, TX1, 0), (RX2, TX1, 0), (RX3, TX1, 0), (RX4, TX4, 6), (RX5, TX5, 7), (RX6, TX6, 7), (RX7, TX7, 1), (RX8, TX8, 28)]
def mKd (k : Nat) : FieldType := match k with
  | 0 => .int
  | 1 => .byte
  | 2 => .short
  | 3 => .object "DebtCoats$Outermost"
  | 4 => .object "DebtCoats$Wearer"
  | _ => .object "DebtCoats$Sheet"
abbrev mTy (dA : Nat → ClassId) : List (ClassId × FieldType) := [(dA 0, .int), (dA 1, .byte), (dA 2, .short), (dA 3, .object "DebtCoats$Outermost"), (dA 4, .object "DebtCoats$Wearer"), (dA 5, .object "DebtCoats$Sheet")]
/-! words that do not ride in the lists: carried at a contract's start -/
def nN : Cond → Bool
  | .fieldLinkNest _ _ _ _ _ _ => true
  | .methodLinkNest _ _ _ _ => true
  | .castable _ _ => true
  | .declares _ => true
  | .arrayOver (.object _) => true
  | _ => false
def mN (U : State) : Prop := ∀ w ∈ lw_tbl, nN w = true → va_Nw w U
theorem mN.moved {s U : State} (hW : s.WarmedH U.vm) (h : mN s) : mN U := by
  intro w hw hn
  have hs := h w hw hn
  cases w with
  | fieldLinkNest a i b n d h => exact va_Nw.warmF hW hs
  | methodLinkNest a i x h => exact va_Nw.warmM hW hs
  | castable C T => exact va_Nw.warmC hW hs
  | declares x => exact va_Nw.warmD hW hs
  | arrayOver t =>
    cases t with
    | object C => exact va_AO.moved hW.alike hs
    | _ => cases hn
  | _ => cases hn
theorem mN.use {s : State} (h : mN s) {w : Cond} (hw : w ∈ lw_tbl) (hn : nN w = true) {A : Array Value} : w.before A s = true := by
  have hs := h w hw hn
  cases w with
  | fieldLinkNest a i b n d h => exact va_Nw.use rfl hs
  | methodLinkNest a i x h => exact va_Nw.use rfl hs
  | castable C T => exact va_Nw.use rfl hs
  | declares x => exact va_Nw.use rfl hs
  | arrayOver t =>
    cases t with
    | object C => exact va_AO.use hs
    | _ => cases hn
  | _ => cases hn
theorem mN.of {s : State} {A : Array Value} (h : ∀ w ∈ lw_tbl, w.before A s = true) : mN s := by
  intro w hw hn
  have hs := h w hw
  cases w with
  | fieldLinkNest a i b n d h => exact va_Nw.of rfl hs
  | methodLinkNest a i x h => exact va_Nw.of rfl hs
  | castable C T => exact va_Nw.of rfl hs
  | declares x => exact va_Nw.of rfl hs
  | arrayOver t =>
    cases t with
    | object C => exact va_AO.of hs
    | _ => cases hn
  | _ => cases hn
def mE (D : va_G) (dA : Nat → ClassId) (U : State) : Prop := va_K D xCl (mTy dA) U ∧ mN U
theorem mE.moved {D : va_G} {dA : Nat → ClassId} {s U : State} (hW : s.WarmedH U.vm) (h : mE D dA s) : mE D dA U := ⟨va_K.moved hW.alike h.1, h.2.moved hW⟩
theorem mE.calling {D : va_G} {dA : Nat → ClassId} {U : State} (g : JFrame) (mk : MethodId) (a : Array Value) (h : mE D dA U) : mE D dA (U.calling g mk a) := ⟨va_K.moved (u := U) (U := U.calling g mk a) (Vm.Alike.refl U.vm) h.1, fun w hw hn => by
  have hs := h.2 w hw hn
  cases w with
  | fieldLinkNest a i b n d h => exact va_Nw.same rfl rfl hs
  | methodLinkNest a i x h => exact va_Nw.same rfl rfl hs
  | castable C T => exact va_Nw.same rfl rfl hs
  | declares x => exact va_Nw.same rfl rfl hs
  | arrayOver t =>
    cases t with
    | object C => exact va_AO.moved (Vm.Alike.refl U.vm) hs
    | _ => cases hn
  | _ => cases hn⟩
/-- a contract's start: the world and the tables -/
def mPre (D : va_G) (dA : Nat → ClassId) (sh : Nat → mSh) (ad : Nat → Nat) (N : Nat) (σ : mMem) (U : State) : Prop := va_P D xCl (mW dA sh ad N σ) U.heap ∧ mE D dA U
theorem mPre.blind {D : va_G} {dA : Nat → ClassId} {sh : Nat → mSh} {ad : Nat → Nat} {N : Nat} {σ : mMem} {av : List Value} : FrameBlind (va_Pc av (mPre D dA sh ad N σ)) := fun a U g mk q => ⟨q.1, q.2.1, q.2.2.calling g mk a⟩
theorem mE.blind {D : va_G} {dA : Nat → ClassId} {av : List Value} : FrameBlind (va_Pc av (mE D dA)) := fun a U g mk q => ⟨q.1, q.2.calling g mk a⟩
theorem mPre.at {D : va_G} {dA : Nat → ClassId} {sh : Nat → mSh} {ad : Nat → Nat} {N : Nat} {σ : mMem} {av : List Value} {s : State} {H : Heap} (hE : mE D dA s) (hP : va_P D xCl (mW dA sh ad N σ) H) : ∀ U : State, U.heap = H → s.WarmedH U.vm → va_Pc av (mPre D dA sh ad N σ) av.toArray U := fun U hU hW => ⟨rfl, by rw [hU]; exact hP, hE.moved hW⟩
theorem mE.at {D : va_G} {dA : Nat → ClassId} {av : List Value} {s : State} {H : Heap} (hE : mE D dA s) : ∀ U : State, U.heap = H → s.WarmedH U.vm → va_Pc av (mE D dA) av.toArray U := fun U _ hW => ⟨rfl, hE.moved hW⟩
section MROWS
variable {p : Program} {l : Launch} {e : Env} {R : Room} {s : State} {m : MethodId} {args : Array Value} {below : List Frame} {meth : Method} {c : Code} {H : Heap} {locs : List Loc} {cells slots : Nat} {Q : State → Prop}
variable {cc : ByteArray} {pc : Nat} {ls : Array Slot} {rest : List Value} {D : va_G} {dA : Nat → ClassId} {sh : Nat → mSh} {ad : Nat → Nat} {N : Nat} {σ : mMem} {A : Nat → Prop} {H0 : Heap}
theorem m_fs {f : Nat → Int32} {sp : List mSp} {k : Nat} {x : mSp} (h : sp[k]? = some x) : (sp.mapIdx (mfv ad f))[k]? = some (mfv ad f k x) := by
  rw [List.getElem?_mapIdx, h]; rfl
theorem m_fset {f : Nat → Int32} {sp : List mSp} {k : Nat} (h : sp[k]? = some none) (v : Int32) : (sp.mapIdx (mfv ad f)).set k (.int v) = sp.mapIdx (mfv ad (upd f k v)) := by
  have hl := (List.getElem?_eq_some_iff.mp h).1
  apply List.ext_getElem?
  intro j
  rw [List.getElem?_set, List.getElem?_mapIdx, List.getElem?_mapIdx]
  by_cases hj : k = j
  · subst hj
    rw [if_pos rfl, h]
    simp [mfv, upd, hl]
  · rw [if_neg hj]
    cases hx : sp[j]? with
    | none => rfl
    | some x =>
      cases x with
      | none => simp [mfv, upd, Ne.symm hj]
      | some r => simp [mfv]
theorem m_fsetR {f : Nat → Int32} {sp : List mSp} {k : Nat} (hl : k < sp.length) (r : Option Nat) : (sp.mapIdx (mfv ad f)).set k (va_re ad r) = (sp.set k (some r)).mapIdx (mfv ad f) := by
  apply List.ext_getElem?
  intro j
  rw [List.getElem?_set, List.getElem?_mapIdx, List.getElem?_mapIdx, List.getElem?_set]
  by_cases hj : k = j
  · subst hj
    simp [mfv, hl]
  · rw [if_neg hj, if_neg hj]
/-- getfield, an int -/
theorem mg_get (hexec : p.tables.exec = Jvm.exec) (hb : c.code = cc) {own ref C : String} {T : u_T} {N0 ci index : Nat} {Ts : List Cond} (hts : ∀ w ∈ Ts, w.before args s = true) (hin : ∀ w ∈ u_ws C T N0, w ∈ Ts) (hown : s.vm.findClass own = some m.cls) (hE : mE D dA s) (hP : va_P D xCl (mW dA sh ad N σ) H) (i : Nat) (hi : i < N) {sp : List mSp} (he : sh i = .inl (ci, sp)) (hc : xCl[ci]? = some (C, T, N0)) (k : Nat) (hsp : sp[k]? = some none) (hk : k < N0) (hlink : (Cond.fieldLink own index ref (T k).2.1 (T k).2.2.1).before args s = true) (hsame : ∀ x, s.fieldFound? (T k).1 (T k).2.1 (T k).2.2.1 = some x → s.fieldFound? ref (T k).2.1 (T k).2.2.1 = some x) (hdg : decode cc pc = .ok (.getfield index, 3))
    (kk : W p l e R s m args below meth c H locs cells slots Q (F0 m (pc + 3) ls (.int (σ i k) :: rest))) : W p l e R s m args below meth c H locs cells slots Q (F0 m pc ls (.ref (ad i) :: rest)) :=
  va_get hexec hb hts hin hown hE.1 hP i (by rw [mW_get hi, he]; rfl) hc k hk hlink hsame (m_fs hsp) hdg kk
/-- getfield, a reference -/
theorem mg_ref (hexec : p.tables.exec = Jvm.exec) (hb : c.code = cc) {own ref C : String} {T : u_T} {N0 ci index : Nat} {Ts : List Cond} (hts : ∀ w ∈ Ts, w.before args s = true) (hin : ∀ w ∈ u_ws C T N0, w ∈ Ts) (hown : s.vm.findClass own = some m.cls) (hE : mE D dA s) (hP : va_P D xCl (mW dA sh ad N σ) H) (i : Nat) (hi : i < N) {sp : List mSp} (he : sh i = .inl (ci, sp)) (hc : xCl[ci]? = some (C, T, N0)) (k : Nat) {j : Nat} (hsp : sp[k]? = some (some (some j))) (hk : k < N0) (hlink : (Cond.fieldLink own index ref (T k).2.1 (T k).2.2.1).before args s = true) (hsame : ∀ x, s.fieldFound? (T k).1 (T k).2.1 (T k).2.2.1 = some x → s.fieldFound? ref (T k).2.1 (T k).2.2.1 = some x) (hdg : decode cc pc = .ok (.getfield index, 3))
    (kk : W p l e R s m args below meth c H locs cells slots Q (F0 m (pc + 3) ls (.ref (ad j) :: rest))) : W p l e R s m args below meth c H locs cells slots Q (F0 m pc ls (.ref (ad i) :: rest)) :=
  va_get hexec hb hts hin hown hE.1 hP i (by rw [mW_get hi, he]; rfl) hc k hk hlink hsame (m_fs hsp) hdg kk
/-- the same of a nest mate -/
theorem mg_getN (hexec : p.tables.exec = Jvm.exec) (hb : c.code = cc) {own ref C host : String} {T : u_T} {N0 ci index : Nat} {Ts : List Cond} (hts : ∀ w ∈ Ts, w.before args s = true) (hin : ∀ w ∈ u_ws C T N0, w ∈ Ts) (hown : s.vm.findClass own = some m.cls) (hE : mE D dA s) (hP : va_P D xCl (mW dA sh ad N σ) H) (i : Nat) (hi : i < N) {sp : List mSp} (he : sh i = .inl (ci, sp)) (hc : xCl[ci]? = some (C, T, N0)) (k : Nat) (hsp : sp[k]? = some none) (hk : k < N0) (hq : (Cond.fieldLinkNest own index ref (T k).2.1 (T k).2.2.1 host) ∈ lw_tbl) (hsame : ∀ x, s.fieldFound? (T k).1 (T k).2.1 (T k).2.2.1 = some x → s.fieldFound? ref (T k).2.1 (T k).2.2.1 = some x) (hdg : decode cc pc = .ok (.getfield index, 3))
    (kk : W p l e R s m args below meth c H locs cells slots Q (F0 m (pc + 3) ls (.int (σ i k) :: rest))) : W p l e R s m args below meth c H locs cells slots Q (F0 m pc ls (.ref (ad i) :: rest)) :=
  va_getN hexec hb hts hin hown hE.1 hP i (by rw [mW_get hi, he]; rfl) hc k hk (hE.2.use hq rfl) hsame (m_fs hsp) hdg kk
theorem mg_refN (hexec : p.tables.exec = Jvm.exec) (hb : c.code = cc) {own ref C host : String} {T : u_T} {N0 ci index : Nat} {Ts : List Cond} (hts : ∀ w ∈ Ts, w.before args s = true) (hin : ∀ w ∈ u_ws C T N0, w ∈ Ts) (hown : s.vm.findClass own = some m.cls) (hE : mE D dA s) (hP : va_P D xCl (mW dA sh ad N σ) H) (i : Nat) (hi : i < N) {sp : List mSp} (he : sh i = .inl (ci, sp)) (hc : xCl[ci]? = some (C, T, N0)) (k : Nat) {j : Nat} (hsp : sp[k]? = some (some (some j))) (hk : k < N0) (hq : (Cond.fieldLinkNest own index ref (T k).2.1 (T k).2.2.1 host) ∈ lw_tbl) (hsame : ∀ x, s.fieldFound? (T k).1 (T k).2.1 (T k).2.2.1 = some x → s.fieldFound? ref (T k).2.1 (T k).2.2.1 = some x) (hdg : decode cc pc = .ok (.getfield index, 3))
    (kk : W p l e R s m args below meth c H locs cells slots Q (F0 m (pc + 3) ls (.ref (ad j) :: rest))) : W p l e R s m args below meth c H locs cells slots Q (F0 m pc ls (.ref (ad i) :: rest)) :=
  va_getN hexec hb hts hin hown hE.1 hP i (by rw [mW_get hi, he]; rfl) hc k hk (hE.2.use hq rfl) hsame (m_fs hsp) hdg kk
theorem m_setI {i k : Nat} {sp : List mSp} {ci : Nat} (hi : i < N) (he : sh i = .inl (ci, sp)) (hsp : sp[k]? = some none) (v : Int32) : (mW dA sh ad N σ).set i (ad i, .inr (ci, (sp.mapIdx (mfv ad (σ i))).set k (.int v))) = mW dA sh ad N (mup σ i k v) := by
  refine mW_set hi ?_ (fun j hj => ⟨rfl, mup_row hj⟩)
  rw [he, mup_rowS, m_fset hsp]; rfl
theorem m_setR {i k : Nat} {sp : List mSp} {ci : Nat} (hi : i < N) (he : sh i = .inl (ci, sp)) (hk : k < sp.length) (r : Option Nat) : (mW dA sh ad N σ).set i (ad i, .inr (ci, (sp.mapIdx (mfv ad (σ i))).set k (va_re ad r))) = mW dA (va_up sh i (.inl (ci, sp.set k (some r)))) ad N σ := by
  refine mW_set hi ?_ (fun j hj => ⟨va_up_ne _ _ hj, rfl⟩)
  rw [va_up_self, m_fsetR hk]; rfl
/-- putfield, an int -/
theorem mg_put (hexec : p.tables.exec = Jvm.exec) (hb : c.code = cc) {own ref C : String} {T : u_T} {N0 ci index : Nat} {Ts : List Cond} (hts : ∀ w ∈ Ts, w.before args s = true) (hin : ∀ w ∈ u_ws C T N0, w ∈ Ts) (ty0 : Nat → FieldType) (hty : ∀ k, k < N0 → parseFieldDescriptor (T k).2.2.1 = some (ty0 k)) (hnm : ∀ a, a < N0 → ∀ b, b < N0 → a ≠ b → (T a).2.1 ≠ (T b).2.1) (hown : s.vm.findClass own = some m.cls) (hE : mE D dA s) (hD : mD A ad N) (hP : va_P D xCl (mW dA sh ad N σ) H) (hS : va_S A H0 H locs) (i : Nat) (hi : i < N) {sp : List mSp} (he : sh i = .inl (ci, sp)) (hc : xCl[ci]? = some (C, T, N0)) (k : Nat) (hsp : sp[k]? = some none) (hk : k < N0) (hlink : (Cond.fieldLink own index ref (T k).2.1 (T k).2.2.1).before args s = true) (hsame : ∀ x, s.fieldFound? (T k).1 (T k).2.1 (T k).2.2.1 = some x → s.fieldFound? ref (T k).2.1 (T k).2.2.1 = some x) (hfin : (T k).2.2.2 = false) {ty : FieldType} {v : Int32} (hd : parseFieldDescriptor (T k).2.2.1 = some ty) (hn : narrow ty (.int v) = .int v) (hfit : fits ty (.int v) = true) (hdg : decode cc pc = .ok (.putfield index, 3))
    (kk : ∀ (H1 : Heap) (locs1 : List Loc), va_P D xCl (mW dA sh ad N (mup σ i k v)) H1 → va_S A H0 H1 locs1 → W p l e R s m args below meth c H1 locs1 cells slots Q (F0 m (pc + 3) ls rest)) : W p l e R s m args below meth c H locs cells slots Q (F0 m pc ls (.int v :: .ref (ad i) :: rest)) :=
  va_put hexec hb hts hin ty0 hty hnm hown hE.1 hP hD.to hS i (by rw [mW_get hi, he]; rfl) hc k hk hlink hsame hfin hd hn hfit (by rw [List.length_mapIdx]; exact (List.getElem?_eq_some_iff.mp hsp).1) hdg (fun H1 locs1 hP1 _ hS1 => kk H1 locs1 (by rw [← m_setI hi he hsp]; exact hP1) hS1)
theorem mg_putN (hexec : p.tables.exec = Jvm.exec) (hb : c.code = cc) {own ref C host : String} {T : u_T} {N0 ci index : Nat} {Ts : List Cond} (hts : ∀ w ∈ Ts, w.before args s = true) (hin : ∀ w ∈ u_ws C T N0, w ∈ Ts) (ty0 : Nat → FieldType) (hty : ∀ k, k < N0 → parseFieldDescriptor (T k).2.2.1 = some (ty0 k)) (hnm : ∀ a, a < N0 → ∀ b, b < N0 → a ≠ b → (T a).2.1 ≠ (T b).2.1) (hown : s.vm.findClass own = some m.cls) (hE : mE D dA s) (hD : mD A ad N) (hP : va_P D xCl (mW dA sh ad N σ) H) (hS : va_S A H0 H locs) (i : Nat) (hi : i < N) {sp : List mSp} (he : sh i = .inl (ci, sp)) (hc : xCl[ci]? = some (C, T, N0)) (k : Nat) (hsp : sp[k]? = some none) (hk : k < N0) (hq : (Cond.fieldLinkNest own index ref (T k).2.1 (T k).2.2.1 host) ∈ lw_tbl) (hsame : ∀ x, s.fieldFound? (T k).1 (T k).2.1 (T k).2.2.1 = some x → s.fieldFound? ref (T k).2.1 (T k).2.2.1 = some x) (hfin : (T k).2.2.2 = false) {ty : FieldType} {v : Int32} (hd : parseFieldDescriptor (T k).2.2.1 = some ty) (hn : narrow ty (.int v) = .int v) (hfit : fits ty (.int v) = true) (hdg : decode cc pc = .ok (.putfield index, 3))
    (kk : ∀ (H1 : Heap) (locs1 : List Loc), va_P D xCl (mW dA sh ad N (mup σ i k v)) H1 → va_S A H0 H1 locs1 → W p l e R s m args below meth c H1 locs1 cells slots Q (F0 m (pc + 3) ls rest)) : W p l e R s m args below meth c H locs cells slots Q (F0 m pc ls (.int v :: .ref (ad i) :: rest)) :=
  va_putN hexec hb hts hin ty0 hty hnm hown hE.1 hP hD.to hS i (by rw [mW_get hi, he]; rfl) hc k hk (hE.2.use hq rfl) hsame hfin hd hn hfit (by rw [List.length_mapIdx]; exact (List.getElem?_eq_some_iff.mp hsp).1) hdg (fun H1 locs1 hP1 _ hS1 => kk H1 locs1 (by rw [← m_setI hi he hsp]; exact hP1) hS1)
/-- putfield, a reference -/
theorem mg_putR (hexec : p.tables.exec = Jvm.exec) (hb : c.code = cc) {own ref C : String} {T : u_T} {N0 ci index : Nat} {Ts : List Cond} (hts : ∀ w ∈ Ts, w.before args s = true) (hin : ∀ w ∈ u_ws C T N0, w ∈ Ts) (ty0 : Nat → FieldType) (hty : ∀ k, k < N0 → parseFieldDescriptor (T k).2.2.1 = some (ty0 k)) (hnm : ∀ a, a < N0 → ∀ b, b < N0 → a ≠ b → (T a).2.1 ≠ (T b).2.1) (hown : s.vm.findClass own = some m.cls) (hE : mE D dA s) (hD : mD A ad N) (hP : va_P D xCl (mW dA sh ad N σ) H) (hS : va_S A H0 H locs) (i : Nat) (hi : i < N) {sp : List mSp} (he : sh i = .inl (ci, sp)) (hc : xCl[ci]? = some (C, T, N0)) (k : Nat) (hl : k < sp.length) (hk : k < N0) (hlink : (Cond.fieldLink own index ref (T k).2.1 (T k).2.2.1).before args s = true) (hsame : ∀ x, s.fieldFound? (T k).1 (T k).2.1 (T k).2.2.1 = some x → s.fieldFound? ref (T k).2.1 (T k).2.2.1 = some x) (hfin : (T k).2.2.2 = false) {ty : FieldType} {r : Option Nat} (hd : parseFieldDescriptor (T k).2.2.1 = some ty) (hn : narrow ty (va_re ad r) = va_re ad r) (hfit : fits ty (va_re ad r) = true) (hdg : decode cc pc = .ok (.putfield index, 3))
    (kk : ∀ (H1 : Heap) (locs1 : List Loc), va_P D xCl (mW dA (va_up sh i (.inl (ci, sp.set k (some r)))) ad N σ) H1 → va_S A H0 H1 locs1 → W p l e R s m args below meth c H1 locs1 cells slots Q (F0 m (pc + 3) ls rest)) : W p l e R s m args below meth c H locs cells slots Q (F0 m pc ls (va_re ad r :: .ref (ad i) :: rest)) :=
  va_put hexec hb hts hin ty0 hty hnm hown hE.1 hP hD.to hS i (by rw [mW_get hi, he]; rfl) hc k hk hlink hsame hfin hd hn hfit (by rw [List.length_mapIdx]; exact hl) hdg (fun H1 locs1 hP1 _ hS1 => kk H1 locs1 (by rw [← m_setR hi he hl]; exact hP1) hS1)
/-- an int array's element -/
theorem mg_ild (hexec : p.tables.exec = Jvm.exec) (hb : c.code = cc) (hE : mE D dA s) (hP : va_P D xCl (mW dA sh ad N σ) H) (i : Nat) (hi : i < N) {n : Nat} (he : sh i = .inr (.inl (0, n))) {x : Int32} (a : Nat) (ha : a < n) (hx : x = nI a) (hn : n < 2 ^ 31) (hdg : decode cc pc = .ok (.iaload, 1))
    (kk : W p l e R s m args below meth c H locs cells slots Q (F0 m (pc + 1) ls (.int (σ i a) :: rest))) : W p l e R s m args below meth c H locs cells slots Q (F0 m pc ls (.int x :: .ref (ad i) :: rest)) := by
  subst hx
  have h := va_iald (ls := ls) (rest := rest) (Q := Q) (R := R) (below := below) (cells := cells) (slots := slots) (locs := locs) (l := l) (e := e) (m := m) (args := args) (meth := meth) hexec hb hE.1 hP i 0 (n := n) (f := σ i) (by rw [mW_get hi, he]; rfl) rfl (vp_in_nI ha hn) hdg
  rw [nI_clamp (by omega)] at h
  exact h kk
theorem mg_bld (hexec : p.tables.exec = Jvm.exec) (hb : c.code = cc) (hE : mE D dA s) (hP : va_P D xCl (mW dA sh ad N σ) H) (i : Nat) (hi : i < N) {n : Nat} (he : sh i = .inr (.inl (1, n))) {x : Int32} (a : Nat) (ha : a < n) (hx : x = nI a) (hn : n < 2 ^ 31) (hdg : decode cc pc = .ok (.baload, 1))
    (kk : W p l e R s m args below meth c H locs cells slots Q (F0 m (pc + 1) ls (.int (σ i a) :: rest))) : W p l e R s m args below meth c H locs cells slots Q (F0 m pc ls (.int x :: .ref (ad i) :: rest)) := by
  subst hx
  have h := va_bald (ls := ls) (rest := rest) (Q := Q) (R := R) (below := below) (cells := cells) (slots := slots) (locs := locs) (l := l) (e := e) (m := m) (args := args) (meth := meth) hexec hb hE.1 hP i 1 (n := n) (f := σ i) (by rw [mW_get hi, he]; rfl) rfl (vp_in_nI ha hn) hdg
  rw [nI_clamp (by omega)] at h
  exact h kk
theorem m_setA {i k t n : Nat} (hi : i < N) (he : sh i = .inr (.inl (t, n))) (v : Int32) : (mW dA sh ad N σ).set i (ad i, .inl (dA t, n, .inl (upd (σ i) k v))) = mW dA sh ad N (mup σ i k v) := by
  refine mW_set hi ?_ (fun j hj => ⟨rfl, mup_row hj⟩)
  rw [he, mup_rowS]; rfl
theorem m_setF {i t n : Nat} (hi : i < N) (he : sh i = .inr (.inl (t, n))) (f : Nat → Int32) : (mW dA sh ad N σ).set i (ad i, .inl (dA t, n, .inl f)) = mW dA sh ad N (va_up σ i f) := by
  refine mW_set hi ?_ (fun j hj => ⟨rfl, va_up_ne _ _ hj⟩)
  rw [he, va_up_self]; rfl
theorem mg_ist (hexec : p.tables.exec = Jvm.exec) (hb : c.code = cc) (hE : mE D dA s) (hD : mD A ad N) (hP : va_P D xCl (mW dA sh ad N σ) H) (hS : va_S A H0 H locs) (i : Nat) (hi : i < N) {n : Nat} (he : sh i = .inr (.inl (0, n))) {x v : Int32} (a : Nat) (ha : a < n) (hx : x = nI a) (hn : n < 2 ^ 31) (hdg : decode cc pc = .ok (.iastore, 1))
    (kk : ∀ (H1 : Heap) (locs1 : List Loc), va_P D xCl (mW dA sh ad N (mup σ i a v)) H1 → va_S A H0 H1 locs1 → W p l e R s m args below meth c H1 locs1 cells slots Q (F0 m (pc + 1) ls rest)) : W p l e R s m args below meth c H locs cells slots Q (F0 m pc ls (.int v :: .int x :: .ref (ad i) :: rest)) := by
  subst hx
  refine va_iast hexec hb hE.1 hP hD.to hS i 0 (n := n) (f := σ i) (by rw [mW_get hi, he]; rfl) rfl (vp_in_nI ha hn) hdg (fun H1 locs1 hP1 _ hS1 => kk H1 locs1 ?_ hS1)
  rw [nI_clamp (by omega), m_setA hi he] at hP1
  exact hP1
/-- a reference array's element -/
theorem mg_ald (hexec : p.tables.exec = Jvm.exec) (hb : c.code = cc) (hE : mE D dA s) (hP : va_P D xCl (mW dA sh ad N σ) H) (i : Nat) (hi : i < N) {t n : Nat} {C : String} {f : Nat → Option Nat} (he : sh i = .inr (.inr (t, n, f))) (ht : (mTy dA)[t]? = some (dA t, .object C)) {x : Int32} (a : Nat) (ha : a < n) (hx : x = nI a) (hn : n < 2 ^ 31) {j : Nat} (hj : f a = some j) (hdg : decode cc pc = .ok (.aaload, 1))
    (kk : W p l e R s m args below meth c H locs cells slots Q (F0 m (pc + 1) ls (.ref (ad j) :: rest))) : W p l e R s m args below meth c H locs cells slots Q (F0 m pc ls (.int x :: .ref (ad i) :: rest)) := by
  subst hx
  have h := va_aldq (ls := ls) (rest := rest) (Q := Q) (R := R) (below := below) (cells := cells) (slots := slots) (locs := locs) (l := l) (e := e) (m := m) (args := args) (meth := meth) hexec hb hE.1 hP i t (n := n) (f := fun i => (f i).map ad) (by rw [mW_get hi, he]; rfl) ht (vp_in_nI ha hn) hdg
  rw [nI_clamp (by omega)] at h
  refine h ?_
  show W _ _ _ _ _ _ _ _ _ _ _ _ _ _ _ (F0 m (pc + 1) ls (va_rf ((f a).map ad) :: rest))
  rw [hj]
  exact kk
theorem mg_alen (hexec : p.tables.exec = Jvm.exec) (hb : c.code = cc) (hE : mE D dA s) (hP : va_P D xCl (mW dA sh ad N σ) H) (i : Nat) (hi : i < N) {n : Nat} (he : sh i = .inr (.inl (0, n))) (hdg : decode cc pc = .ok (.arraylength, 1))
    (kk : W p l e R s m args below meth c H locs cells slots Q (F0 m (pc + 1) ls (.int (nI n) :: rest))) : W p l e R s m args below meth c H locs cells slots Q (F0 m pc ls (.ref (ad i) :: rest)) :=
  va_alen (x := (n, .inl (σ i))) (ty := .int) hexec hb hE.1 hP i 0 (by rw [mW_get hi, he]; rfl) rfl rfl hdg kk
/-- System.arraycopy of int arrays -/
theorem mg_cpy (hexec : p.tables.exec = Jvm.exec) (hb : c.code = cc) (hml : c.maxLocals = ls.size) {own : String} {index : Nat} (hown : s.vm.findClass own = some m.cls) (hlink : (Cond.methodLink own index arraycopyName).before args s = true) (hnat : (Cond.native arraycopyName).before args s = true) (hstat : (Cond.static arraycopyName).before args s = true) (hini : (Cond.initialized "java/lang/System").before args s = true) (hE : mE D dA s) (hD : mD A ad N) (hP : va_P D xCl (mW dA sh ad N σ) H) (hS : va_S A H0 H locs)
    (i j : Nat) (hi : i < N) (hj : j < N) {n0 n1 : Nat} (he : sh i = .inr (.inl (0, n0))) (hf : sh j = .inr (.inl (0, n1))) {x y z : Int32} (a b n : Nat) (hx : x = nI a) (hy : y = nI b) (hz : z = nI n) (h1 : a + n ≤ n0) (h2 : b + n ≤ n1) (hn0 : n0 < 2 ^ 31) (hn1 : n1 < 2 ^ 31)
    (hframes : 1 ≤ R.frames) (hlocals : (rest.map fun v => v.category).sum + (nativeFrameWords "java/lang/System" "arraycopy" 5 + 11) ≤ R.locals) (hdg : decode cc pc = .ok (.invokestatic index, 3))
    (kk : ∀ (H1 : Heap) (locs1 : List Loc), va_P D xCl (mW dA sh ad N (va_up σ j (va_cpy (σ i) (σ j) a b n))) H1 → va_S A H0 H1 locs1 → W p l e R s m args below meth c H1 locs1 cells slots Q (F0 m (pc + 3) ls rest)) : W p l e R s m args below meth c H locs cells slots Q (F0 m pc ls (.int z :: .int y :: .ref (ad j) :: .int x :: .ref (ad i) :: rest)) := by
  subst hx; subst hy; subst hz
  refine va_copyi hexec hb hml hown hlink hnat hstat hini hE.1 hP hD.to hS i j 0 0 (n0 := n0) (n1 := n1) (f := σ i) (g := σ j) (ty := .int) (by rw [mW_get hi, he]; rfl) (by rw [mW_get hj, hf]; rfl) rfl rfl rfl (nI_pos (by omega)) (nI_pos (by omega)) (nI_pos (by omega)) ?_ ?_ (fun _ _ => rfl) hframes hlocals hdg (fun H1 locs1 hP1 _ hS1 => kk H1 locs1 ?_ hS1)
  · rw [nI_clamp (by omega), nI_clamp (by omega)]; exact h1
  · rw [nI_clamp (by omega), nI_clamp (by omega)]; exact h2
  · rw [nI_clamp (by omega), nI_clamp (by omega), nI_clamp (by omega), m_setF hj hf] at hP1
    exact hP1
/-- the receiver of a call -/
theorem m_recv (hE : mE D dA s) (hP : va_P D xCl (mW dA sh ad N σ) H) (i : Nat) (hi : i < N) {ci : Nat} {sp : List mSp} {q : vw_C} (he : sh i = .inl (ci, sp)) (hc : xCl[ci]? = some q) : ∃ cell : Cell, H[ad i]? = some cell ∧ cell.vm.isStatics = false ∧ s.vm.findClass q.1 = some cell.cls :=
  va_recv hE.1 hP hc (q0 := i) (fs := sp.mapIdx (mfv ad (σ i))) (by rw [mW_get hi, he]; rfl)
end MROWS
/-! numbers -/
theorem mi_add {x y : Int32} {a b : Nat} (h1 : x = nI a) (h2 : y = nI b) : x + y = nI (a + b) := by rw [h1, h2, nI_add]
theorem mi_mul {x y : Int32} {a b : Nat} (h1 : x = nI a) (h2 : y = nI b) : x * y = nI (a * b) := by rw [h1, h2, pk_mul]
theorem mi_sub {x y : Int32} {a b : Nat} (h1 : x = nI a) (h2 : y = nI b) (h : b ≤ a) : x - y = nI (a - b) := by rw [h1, h2, pk_sub h]
theorem mi_div {x y : Int32} {a b : Nat} (h1 : x = nI a) (h2 : y = nI b) (ha : a < 2 ^ 31) (h0 : 0 < b) (hb : b < 2 ^ 31) : x / y = nI (a / b) := by rw [h1, h2, pk_div ha h0 hb]
theorem mi_le {x y : Int32} {a b : Nat} (h1 : x = nI a) (h2 : y = nI b) (ha : a < 2 ^ 31) (hb : b < 2 ^ 31) (h : x ≤ y) : a ≤ b := by rw [h1, h2] at h; exact (nI_leI ha hb).mp h
theorem mi_lt {x y : Int32} {a b : Nat} (h1 : x = nI a) (h2 : y = nI b) (ha : a < 2 ^ 31) (hb : b < 2 ^ 31) (h : x < y) : a < b := by rw [h1, h2] at h; exact (nI_ltI ha hb).mp h
theorem mi_nle {x y : Int32} {a b : Nat} (h1 : x = nI a) (h2 : y = nI b) (ha : a < 2 ^ 31) (hb : b < 2 ^ 31) (h : ¬ x ≤ y) : b < a := by rw [h1, h2] at h; exact Nat.lt_of_not_le (fun q => h ((nI_leI ha hb).mpr q))
theorem mi_nlt {x y : Int32} {a b : Nat} (h1 : x = nI a) (h2 : y = nI b) (ha : a < 2 ^ 31) (hb : b < 2 ^ 31) (h : ¬ x < y) : b ≤ a := by rw [h1, h2] at h; exact Nat.le_of_not_lt (fun q => h ((nI_ltI ha hb).mpr q))
theorem mi_eq {x y : Int32} {a b : Nat} (h1 : x = nI a) (h2 : y = nI b) (ha : a < 2 ^ 31) (hb : b < 2 ^ 31) (h : x = y) : a = b := by rw [h1, h2] at h; exact (nI_eq ha hb).mp h
theorem mi_ne {x y : Int32} {a b : Nat} (h1 : x = nI a) (h2 : y = nI b) (ha : a < 2 ^ 31) (hb : b < 2 ^ 31) (h : ¬ x = y) : a ≠ b := by rw [h1, h2] at h; exact fun q => h ((nI_eq ha hb).mpr q)
