def rm2 (σ : mMem) (a b : Nat) : Nat → mMem
  | 0 => σ
  | k + 1 => mup (mup (rm2 σ a b k) 1 (b + k) (rm2 σ a b k 1 (a + k))) 1 (a + k) (rm2 σ a b k 1 (b + k))
def rm3 (σ : mMem) (a b c : Nat) : Nat → mMem
  | 0 => σ
  | k + 1 => mup (mup (mup (rm3 σ a b c k) 1 (c + k) (rm3 σ a b c k 1 (b + k))) 1 (b + k) (mup (rm3 σ a b c k) 1 (c + k) (rm3 σ a b c k 1 (b + k)) 1 (a + k))) 1 (a + k) (rm3 σ a b c k 1 (c + k))
theorem rm2_3 {σ : mMem} {a b k j : Nat} (h1 : j < a ∨ a + k ≤ j) (h2 : j < b ∨ b + k ≤ j) : rm2 σ a b k 1 j = σ 1 j := by
  induction k with
  | zero => rfl
  | succ k ih => rw [rm2, mup_ne2 (by omega), mup_ne2 (by omega), ih (by omega) (by omega)]
theorem rm3_3 {σ : mMem} {a b c k j : Nat} (h1 : j < a ∨ a + k ≤ j) (h2 : j < b ∨ b + k ≤ j) (h3 : j < c ∨ c + k ≤ j) : rm3 σ a b c k 1 j = σ 1 j := by
  induction k with
  | zero => rfl
  | succ k ih => rw [rm3, mup_ne2 (by omega), mup_ne2 (by omega), mup_ne2 (by omega), ih (by omega) (by omega) (by omega)]
def rngY (σ : mMem) (nc : Nat → Nat) (a b : Nat) (c : Int32) : mMem := if c < 0 then rm2 σ (40 * a + 8 + 4 * (nc a - 1)) (40 * b + 8 + 4 * (nc b - 1)) 4 else rm3 σ (40 * a + 8 + 4 * (nc a - 1)) (40 * b + 8 + 4 * (nc b - 1)) (40 * tn c + 8 + 4 * (nc (tn c) - 1)) 4
abbrev okm (w : Int64) (k : Nat) : Prop := (32 : Int64) ≤ (tby w k &&& 255) ∧ (tby w k &&& 255) ≤ 126
def tpM (σ : mMem) (w : Int64) (t n : Nat) : Nat → mMem
  | 0 => σ
  | c + 1 => mup (mup (tpM σ w t n c) 8 (t + c) (tby w (n - c - 1) &&& 255).toInt32) 0 13 (nI (t + c + 1))
theorem tpM_7 {σ : mMem} {w : Int64} {t n : Nat} (h : σ 0 13 = nI t) : ∀ c, tpM σ w t n c 0 13 = nI (t + c)
  | 0 => h
  | c + 1 => by rw [tpM, mup_self]; rfl
def lyF (f g : Nat → Int32) (a : Nat) : Nat → (Nat → Int32)
  | 0 => f
  | k + 1 => upd (lyF f g a k) (a + k) (g k)
def lay1 (σ : mMem) (P a L : Nat) : mMem := va_up σ 13 (lyF (σ 13) (σ P) a L)
def gvM (f g : Nat → Int32) (a : Nat) : Nat → (Nat → Int32)
  | 0 => f
  | k + 1 => upd (gvM f g a k) k (g (a + k))
def giv1 (σ : mMem) (P a L : Nat) : mMem := va_up σ P (gvM (σ P) (σ 13) a L)
def imL (σ : mMem) : mMem := lay1 (lay1 (lay1 (lay1 (lay1 (lay1 σ 1 0 200) 3 200 25) 4 225 12) 5 237 2) 6 239 8) 7 247 8
def imgM (σ : mMem) : mMem := mup (mup (mup (mup (mup (imL σ) 13 255 (imL σ 0 0)) 13 256 (imL σ 0 7)) 13 257 (imL σ 0 8)) 13 258 (imL σ 0 9)) 0 23 1
def rsL (σ : mMem) : mMem := giv1 (giv1 (giv1 (giv1 (giv1 (giv1 σ 1 0 200) 3 200 25) 4 225 12) 5 237 2) 6 239 8) 7 247 8
def rstM (σ : mMem) : mMem := mup (mup (mup (mup (rsL σ) 0 0 (rsL σ 13 255)) 0 7 (rsL σ 13 256)) 0 8 (rsL σ 13 257)) 0 9 (rsL σ 13 258)
/-- what refuses n items of a sheet from one on -/
def fndM (σ : mMem) (k : Nat) (a i n : Int32) : Int32 := if 0 ≤ σ 14 k then (if σ 14 k = a then (if i < 0 then -13 else (if (σ 15 k).toInt64 < i.toInt64 + n.toInt64 then -13 else 0)) else -12) else -11
theorem fnd_n {σ : mMem} {k z : Nat} {a i n : Int32} (hz : σ 15 k = nI z) (h24 : z ≤ 24) (hn : ¬ n < 0) (h : 0 ≤ fndM σ k a i n) : 0 ≤ i.toInt ∧ 0 ≤ n.toInt ∧ tn i + tn n ≤ z := by
  unfold fndM at h
  split at h
  · split at h
    · split at h
      · exact absurd h (by decide)
      · rename_i h3
        split at h
        · exact absurd h (by decide)
        · rename_i h4
          rw [i_lt, show (0 : Int32).toInt = 0 from rfl] at h3 hn
          have e1 := tn_int (x := i) (by omega)
          have e2 := tn_int (x := n) (by omega)
          have b1 := Int32.toInt_lt i
          have b2 := Int32.toInt_lt n
          rw [l_lt, Int64.toInt_add, Int32.toInt_toInt64, Int32.toInt_toInt64, Int32.toInt_toInt64, hz, nI_toInt (by omega)] at h4
          have e3 : (i.toInt + n.toInt).bmod (2 ^ 64) = i.toInt + n.toInt := by
            apply Int.bmod_eq_of_le <;> omega
          rw [e3] at h4
          omega
    · exact absurd h (by decide)
  · exact absurd h (by decide)
theorem fnd_1 {σ : mMem} {k z : Nat} {a i : Int32} (hz : σ 15 k = nI z) (h24 : z ≤ 24) (h : 0 ≤ fndM σ k a i 1) : ik i z := by
  obtain ⟨h1, -, h3⟩ := fnd_n hz h24 (by decide) h
  have e1 := tn_int h1
  have e2 : tn (1 : Int32) = 1 := by decide
  unfold ik
  omega
def cpA (σ : mMem) (b : Nat) : Nat → mMem
  | 0 => σ
  | k + 1 => mup (cpA σ b k) 17 k (cpA σ b k 16 (b + k))
def cpB (σ : mMem) (b : Nat) : Nat → mMem
  | 0 => σ
  | k + 1 => mup (cpB σ b k) 16 (b + k) (cpB σ b k 17 k)
set_option maxHeartbeats 4000000 in
set_option maxRecDepth 100000 in
theorem mt_X8_ring (l : Launch) (D : va_G) (dA : Nat → ClassId) (st : Nat) (hst : st = 1 ∨ st = 2) (ad : Nat → Nat) (N : Nat) (hA : yA ad N) (σ : mMem) (a b c : Int32) (np : Nat) (nc : Nat → Nat) (ld : Nat → Nat → Nat) (hF : yFk σ 1 np nc ld) : Met l yX8_ring (ws_ yX8_ring cX8_ring 9 (some .int)) ({ frames := 3, cells := 0, slots := 0, locals := 70 }) (va_Pc [.ref (ad 0), .int a, .int b, .int c] (mPre D dA (shM st) ad N σ)) (va_Qi (fun (r : Int32) (u : mMem) => (if a = b then (r = -1 ∧ u = σ) else (if a = c then (r = -1 ∧ u = σ) else (if b = c then (r = -1 ∧ u = σ) else (if ik a np then (if ik b np then (if c = -1 then (if nc (tn a) = 0 then (r = -2 ∧ u = σ) else (if nc (tn b) = 0 then (r = -2 ∧ u = σ) else (if svM σ nc ld (tn a) (tn b) c = 0 then (r = -4 ∧ u = σ) else (r = svM σ nc ld (tn a) (tn b) c ∧ u = rngY σ nc (tn a) (tn b) c)))) else (if ik c np then (if nc (tn a) = 0 then (r = -2 ∧ u = σ) else (if nc (tn b) = 0 then (r = -2 ∧ u = σ) else (if nc (tn c) = 0 then (r = -2 ∧ u = σ) else (if svM σ nc ld (tn a) (tn b) c = 0 then (r = -4 ∧ u = σ) else (r = svM σ nc ld (tn a) (tn b) c ∧ u = rngY σ nc (tn a) (tn b) c))))) else (r = -1 ∧ u = σ))) else (r = -1 ∧ u = σ)) else (r = -1 ∧ u = σ)))))) (mB D dA (shM st) ad N) (mAd ad N)) 0 0 (mAd ad N) := by
  refine Met.ofW (cc := cX8_ring) (maxL := 9) (ret := (some .int)) (by decide) rfl ?_
  intro pp ee ss mm args below meth cd s₁ B hml hv
  obtain ⟨rfl, hP, hE⟩ := hv
  have hx := B.exec
  have hb := B.bytes
  have hr := B.returns
  have hts := atoms_spec (ws := ws_ yX8_ring cX8_ring 9 (some .int)) B.pre
  have hts : ∀ w ∈ lw_all, w.before _ ss = true := fun w h => hts w (List.mem_cons_of_mem _ h)
  have hown : ss.vm.findClass RX8 = some mm.cls := findClass_of_methodNamed B.named
  have hlocks := B.notSynchronized
  have hD := hA.2.self
  have hS : va_S (mAd ad N) ss.heap ss.heap [] := va_S.rf
  have hNN := hA.1
  have hn5 := hF.n5
  have hl := lv_entry ([.ref (ad 0), .int a, .int b, .int c]) (n := 9) (Nat.le_of_ble_eq_true rfl)
  rw [lg_entry_eq]
  generalize (lg_sl ([.ref (ad 0), .int a, .int b, .int c]) ++ List.replicate (9 - (lg_sl ([.ref (ad 0), .int a, .int b, .int c])).length) Slot.unset).toArray = ls at hl ⊢
  have hl : lv_has ls 9 [(0, .ref (ad 0)), (1, .int a), (2, .int b), (3, .int c)] := hl
  refine lv_iload_n hx hb dX8_ring_0 rfl (lv_at hl 1 rfl) ?_
  refine lv_iload_n hx hb dX8_ring_1 rfl (lv_at hl 2 rfl) ?_
  refine lv_icmp_eq (tgt := 15) hx hb dX8_ring_2 (by decide) (fun c_1 => ?_) (fun c_1 => ?_)
  · skip
    refine lv_iconst (v := 1) hx hb dX8_ring_15 (by decide) ?_
    refine lv_goto (tgt := 20) hx hb dX8_ring_16 (by decide) ?_
    refine lv_istore (lv' := [(4, .int 1), (0, .ref (ad 0)), (1, .int a), (2, .int b), (3, .int c)]) hx hb dX8_ring_20 hl (by decide) rfl (fun ls hl => ?_)
    refine lv_aload_n hx hb dX8_ring_22 rfl (lv_at hl 1 rfl) ?_
    refine lv_iload_n hx hb dX8_ring_23 rfl (lv_at hl 2 rfl) ?_
    refine vp_callSi (W.runV (As := [.int a]) (rest := []) ⟨hx, hb, hml, hown, hts⟩ (mt_X8_isOne l D dA st hst ad N hA σ a np hF.n hF.n5) (cwV 1 hts (lw_V q863 q865 qs20 q55 q866) rfl rfl rfl (by decide +kernel) ⟨Nat.le_of_ble_eq_true rfl, Nat.le_of_ble_eq_true rfl⟩) ⟨mPre.blind, m_recv hE hP 0 (yl_n hA (by decide)) rfl rfl, mPre.at hE hP⟩ rfl rfl hl.1 rfl (lv_room (Nat.le_of_ble_eq_true rfl)) dX8_ring_24 ⟨Nat.le_of_ble_eq_true rfl, Nat.le_of_ble_eq_true rfl⟩) (fun r_2 hr_2 => ?_)
    subst hr_2
    refine lv_if_eq (tgt := 56) hx hb dX8_ring_27 (by decide) (fun c_3 => ?_) (fun c_3 => ?_)
    · have c_3 : ¬ (ik a np) := bi_f c_3
      refine lv_iconst (v := (-1)) hx hb dX8_ring_56 (by decide) ?_
      exact W.iret (v := (-1)) hx hb hr (fun t ht hW => ⟨⟨_, _, rfl, by dsimp only; rw [if_pos c_1]; exact ⟨rfl, rfl⟩, mB.of ht hP⟩, hS.F ht⟩) hS.2.2 dX8_ring_57
    · have c_3 : ik a np := bi_t c_3
      have c_3_lt := ik_lt c_3
      have c_3_m := hF.m c_3_lt
      have c_3_8 := hF.m8 c_3_lt
      refine lv_aload_n hx hb dX8_ring_30 rfl (lv_at hl 1 rfl) ?_
      refine lv_iload_n hx hb dX8_ring_31 rfl (lv_at hl 3 rfl) ?_
      refine vp_callSi (W.runV (As := [.int b]) (rest := []) ⟨hx, hb, hml, hown, hts⟩ (mt_X8_isOne l D dA st hst ad N hA σ b np hF.n hF.n5) (cwV 1 hts (lw_V q863 q865 qs20 q55 q866) rfl rfl rfl (by decide +kernel) ⟨Nat.le_of_ble_eq_true rfl, Nat.le_of_ble_eq_true rfl⟩) ⟨mPre.blind, m_recv hE hP 0 (yl_n hA (by decide)) rfl rfl, mPre.at hE hP⟩ rfl rfl hl.1 rfl (lv_room (Nat.le_of_ble_eq_true rfl)) dX8_ring_32 ⟨Nat.le_of_ble_eq_true rfl, Nat.le_of_ble_eq_true rfl⟩) (fun r_4 hr_4 => ?_)
      subst hr_4
      refine lv_if_eq (tgt := 56) hx hb dX8_ring_35 (by decide) (fun c_5 => ?_) (fun c_5 => ?_)
      · have c_5 : ¬ (ik b np) := bi_f c_5
        refine lv_iconst (v := (-1)) hx hb dX8_ring_56 (by decide) ?_
        exact W.iret (v := (-1)) hx hb hr (fun t ht hW => ⟨⟨_, _, rfl, by dsimp only; rw [if_pos c_1]; exact ⟨rfl, rfl⟩, mB.of ht hP⟩, hS.F ht⟩) hS.2.2 dX8_ring_57
      · have c_5 : ik b np := bi_t c_5
        have c_5_lt := ik_lt c_5
        have c_5_m := hF.m c_5_lt
        have c_5_8 := hF.m8 c_5_lt
        refine lv_iload_n hx hb dX8_ring_38 rfl (lv_at hl 4 rfl) ?_
        refine lv_iconst (v := (-1)) hx hb dX8_ring_39 (by decide) ?_
        refine lv_icmp_eq (tgt := 51) hx hb dX8_ring_40 (by decide) (fun c_6 => ?_) (fun c_6 => ?_)
        · skip
          have hcn : c < 0 := by rw [c_6]; decide
          refine lv_iload hx hb dX8_ring_51 (lv_at hl 0 rfl) ?_
          refine lv_if_eq (tgt := 58) hx hb dX8_ring_53 (by decide) (fun c_7 => ?_) (fun c_7 => ?_)
          · skip
            exact absurd c_7 (by decide)
          · skip
            refine lv_iconst (v := (-1)) hx hb dX8_ring_56 (by decide) ?_
            exact W.iret (v := (-1)) hx hb hr (fun t ht hW => ⟨⟨_, _, rfl, by dsimp only; rw [if_pos c_1]; exact ⟨rfl, rfl⟩, mB.of ht hP⟩, hS.F ht⟩) hS.2.2 dX8_ring_57
        · skip
          refine lv_aload_n hx hb dX8_ring_43 rfl (lv_at hl 1 rfl) ?_
          refine lv_iload_n hx hb dX8_ring_44 rfl (lv_at hl 4 rfl) ?_
          refine vp_callSi (W.runV (As := [.int c]) (rest := []) ⟨hx, hb, hml, hown, hts⟩ (mt_X8_isOne l D dA st hst ad N hA σ c np hF.n hF.n5) (cwV 1 hts (lw_V q863 q865 qs20 q55 q866) rfl rfl rfl (by decide +kernel) ⟨Nat.le_of_ble_eq_true rfl, Nat.le_of_ble_eq_true rfl⟩) ⟨mPre.blind, m_recv hE hP 0 (yl_n hA (by decide)) rfl rfl, mPre.at hE hP⟩ rfl rfl hl.1 rfl (lv_room (Nat.le_of_ble_eq_true rfl)) dX8_ring_45 ⟨Nat.le_of_ble_eq_true rfl, Nat.le_of_ble_eq_true rfl⟩) (fun r_8 hr_8 => ?_)
          subst hr_8
          refine lv_if_eq (tgt := 56) hx hb dX8_ring_48 (by decide) (fun c_9 => ?_) (fun c_9 => ?_)
          · have c_9 : ¬ (ik c np) := bi_f c_9
            refine lv_iconst (v := (-1)) hx hb dX8_ring_56 (by decide) ?_
            exact W.iret (v := (-1)) hx hb hr (fun t ht hW => ⟨⟨_, _, rfl, by dsimp only; rw [if_pos c_1]; exact ⟨rfl, rfl⟩, mB.of ht hP⟩, hS.F ht⟩) hS.2.2 dX8_ring_57
          · have c_9 : ik c np := bi_t c_9
            have c_9_lt := ik_lt c_9
            have c_9_m := hF.m c_9_lt
            have c_9_8 := hF.m8 c_9_lt
            have hcp : ¬ c < 0 := by rw [i_lt]; exact Int.not_lt.mpr c_9.1
            refine lv_iload hx hb dX8_ring_51 (lv_at hl 0 rfl) ?_
            refine lv_if_eq (tgt := 58) hx hb dX8_ring_53 (by decide) (fun c_10 => ?_) (fun c_10 => ?_)
            · skip
              exact absurd c_10 (by decide)
            · skip
              refine lv_iconst (v := (-1)) hx hb dX8_ring_56 (by decide) ?_
              exact W.iret (v := (-1)) hx hb hr (fun t ht hW => ⟨⟨_, _, rfl, by dsimp only; rw [if_pos c_1]; exact ⟨rfl, rfl⟩, mB.of ht hP⟩, hS.F ht⟩) hS.2.2 dX8_ring_57
  · skip
    refine lv_iload_n hx hb dX8_ring_5 rfl (lv_at hl 1 rfl) ?_
    refine lv_iload_n hx hb dX8_ring_6 rfl (lv_at hl 3 rfl) ?_
    refine lv_icmp_eq (tgt := 15) hx hb dX8_ring_7 (by decide) (fun c_11 => ?_) (fun c_11 => ?_)
    · skip
      refine lv_iconst (v := 1) hx hb dX8_ring_15 (by decide) ?_
      refine lv_goto (tgt := 20) hx hb dX8_ring_16 (by decide) ?_
      refine lv_istore (lv' := [(4, .int 1), (0, .ref (ad 0)), (1, .int a), (2, .int b), (3, .int c)]) hx hb dX8_ring_20 hl (by decide) rfl (fun ls hl => ?_)
      refine lv_aload_n hx hb dX8_ring_22 rfl (lv_at hl 1 rfl) ?_
      refine lv_iload_n hx hb dX8_ring_23 rfl (lv_at hl 2 rfl) ?_
      refine vp_callSi (W.runV (As := [.int a]) (rest := []) ⟨hx, hb, hml, hown, hts⟩ (mt_X8_isOne l D dA st hst ad N hA σ a np hF.n hF.n5) (cwV 1 hts (lw_V q863 q865 qs20 q55 q866) rfl rfl rfl (by decide +kernel) ⟨Nat.le_of_ble_eq_true rfl, Nat.le_of_ble_eq_true rfl⟩) ⟨mPre.blind, m_recv hE hP 0 (yl_n hA (by decide)) rfl rfl, mPre.at hE hP⟩ rfl rfl hl.1 rfl (lv_room (Nat.le_of_ble_eq_true rfl)) dX8_ring_24 ⟨Nat.le_of_ble_eq_true rfl, Nat.le_of_ble_eq_true rfl⟩) (fun r_12 hr_12 => ?_)
      subst hr_12
      refine lv_if_eq (tgt := 56) hx hb dX8_ring_27 (by decide) (fun c_13 => ?_) (fun c_13 => ?_)
      · have c_13 : ¬ (ik a np) := bi_f c_13
        refine lv_iconst (v := (-1)) hx hb dX8_ring_56 (by decide) ?_
        exact W.iret (v := (-1)) hx hb hr (fun t ht hW => ⟨⟨_, _, rfl, by dsimp only; rw [if_neg c_1, if_pos c_11]; exact ⟨rfl, rfl⟩, mB.of ht hP⟩, hS.F ht⟩) hS.2.2 dX8_ring_57
      · have c_13 : ik a np := bi_t c_13
        have c_13_lt := ik_lt c_13
        have c_13_m := hF.m c_13_lt
        have c_13_8 := hF.m8 c_13_lt
        refine lv_aload_n hx hb dX8_ring_30 rfl (lv_at hl 1 rfl) ?_
        refine lv_iload_n hx hb dX8_ring_31 rfl (lv_at hl 3 rfl) ?_
        refine vp_callSi (W.runV (As := [.int b]) (rest := []) ⟨hx, hb, hml, hown, hts⟩ (mt_X8_isOne l D dA st hst ad N hA σ b np hF.n hF.n5) (cwV 1 hts (lw_V q863 q865 qs20 q55 q866) rfl rfl rfl (by decide +kernel) ⟨Nat.le_of_ble_eq_true rfl, Nat.le_of_ble_eq_true rfl⟩) ⟨mPre.blind, m_recv hE hP 0 (yl_n hA (by decide)) rfl rfl, mPre.at hE hP⟩ rfl rfl hl.1 rfl (lv_room (Nat.le_of_ble_eq_true rfl)) dX8_ring_32 ⟨Nat.le_of_ble_eq_true rfl, Nat.le_of_ble_eq_true rfl⟩) (fun r_14 hr_14 => ?_)
        subst hr_14
        refine lv_if_eq (tgt := 56) hx hb dX8_ring_35 (by decide) (fun c_15 => ?_) (fun c_15 => ?_)
        · have c_15 : ¬ (ik b np) := bi_f c_15
          refine lv_iconst (v := (-1)) hx hb dX8_ring_56 (by decide) ?_
          exact W.iret (v := (-1)) hx hb hr (fun t ht hW => ⟨⟨_, _, rfl, by dsimp only; rw [if_neg c_1, if_pos c_11]; exact ⟨rfl, rfl⟩, mB.of ht hP⟩, hS.F ht⟩) hS.2.2 dX8_ring_57
        · have c_15 : ik b np := bi_t c_15
          have c_15_lt := ik_lt c_15
          have c_15_m := hF.m c_15_lt
          have c_15_8 := hF.m8 c_15_lt
          refine lv_iload_n hx hb dX8_ring_38 rfl (lv_at hl 4 rfl) ?_
          refine lv_iconst (v := (-1)) hx hb dX8_ring_39 (by decide) ?_
          refine lv_icmp_eq (tgt := 51) hx hb dX8_ring_40 (by decide) (fun c_16 => ?_) (fun c_16 => ?_)
          · skip
            have hcn : c < 0 := by rw [c_16]; decide
            refine lv_iload hx hb dX8_ring_51 (lv_at hl 0 rfl) ?_
            refine lv_if_eq (tgt := 58) hx hb dX8_ring_53 (by decide) (fun c_17 => ?_) (fun c_17 => ?_)
            · skip
              exact absurd c_17 (by decide)
            · skip
              refine lv_iconst (v := (-1)) hx hb dX8_ring_56 (by decide) ?_
              exact W.iret (v := (-1)) hx hb hr (fun t ht hW => ⟨⟨_, _, rfl, by dsimp only; rw [if_neg c_1, if_pos c_11]; exact ⟨rfl, rfl⟩, mB.of ht hP⟩, hS.F ht⟩) hS.2.2 dX8_ring_57
          · skip
            refine lv_aload_n hx hb dX8_ring_43 rfl (lv_at hl 1 rfl) ?_
            refine lv_iload_n hx hb dX8_ring_44 rfl (lv_at hl 4 rfl) ?_
            refine vp_callSi (W.runV (As := [.int c]) (rest := []) ⟨hx, hb, hml, hown, hts⟩ (mt_X8_isOne l D dA st hst ad N hA σ c np hF.n hF.n5) (cwV 1 hts (lw_V q863 q865 qs20 q55 q866) rfl rfl rfl (by decide +kernel) ⟨Nat.le_of_ble_eq_true rfl, Nat.le_of_ble_eq_true rfl⟩) ⟨mPre.blind, m_recv hE hP 0 (yl_n hA (by decide)) rfl rfl, mPre.at hE hP⟩ rfl rfl hl.1 rfl (lv_room (Nat.le_of_ble_eq_true rfl)) dX8_ring_45 ⟨Nat.le_of_ble_eq_true rfl, Nat.le_of_ble_eq_true rfl⟩) (fun r_18 hr_18 => ?_)
            subst hr_18
            refine lv_if_eq (tgt := 56) hx hb dX8_ring_48 (by decide) (fun c_19 => ?_) (fun c_19 => ?_)
            · have c_19 : ¬ (ik c np) := bi_f c_19
              refine lv_iconst (v := (-1)) hx hb dX8_ring_56 (by decide) ?_
              exact W.iret (v := (-1)) hx hb hr (fun t ht hW => ⟨⟨_, _, rfl, by dsimp only; rw [if_neg c_1, if_pos c_11]; exact ⟨rfl, rfl⟩, mB.of ht hP⟩, hS.F ht⟩) hS.2.2 dX8_ring_57
            · have c_19 : ik c np := bi_t c_19
              have c_19_lt := ik_lt c_19
              have c_19_m := hF.m c_19_lt
              have c_19_8 := hF.m8 c_19_lt
              have hcp : ¬ c < 0 := by rw [i_lt]; exact Int.not_lt.mpr c_19.1
              refine lv_iload hx hb dX8_ring_51 (lv_at hl 0 rfl) ?_
              refine lv_if_eq (tgt := 58) hx hb dX8_ring_53 (by decide) (fun c_20 => ?_) (fun c_20 => ?_)
              · skip
                exact absurd c_20 (by decide)
              · skip
                refine lv_iconst (v := (-1)) hx hb dX8_ring_56 (by decide) ?_
                exact W.iret (v := (-1)) hx hb hr (fun t ht hW => ⟨⟨_, _, rfl, by dsimp only; rw [if_neg c_1, if_pos c_11]; exact ⟨rfl, rfl⟩, mB.of ht hP⟩, hS.F ht⟩) hS.2.2 dX8_ring_57
    · skip
      refine lv_iload_n hx hb dX8_ring_10 rfl (lv_at hl 2 rfl) ?_
      refine lv_iload_n hx hb dX8_ring_11 rfl (lv_at hl 3 rfl) ?_
      refine lv_icmp_ne (tgt := 19) hx hb dX8_ring_12 (by decide) (fun c_21 => ?_) (fun c_21 => ?_)
      · skip
        refine lv_iconst (v := 0) hx hb dX8_ring_19 (by decide) ?_
        refine lv_istore (lv' := [(4, .int 0), (0, .ref (ad 0)), (1, .int a), (2, .int b), (3, .int c)]) hx hb dX8_ring_20 hl (by decide) rfl (fun ls hl => ?_)
        refine lv_aload_n hx hb dX8_ring_22 rfl (lv_at hl 1 rfl) ?_
        refine lv_iload_n hx hb dX8_ring_23 rfl (lv_at hl 2 rfl) ?_
        refine vp_callSi (W.runV (As := [.int a]) (rest := []) ⟨hx, hb, hml, hown, hts⟩ (mt_X8_isOne l D dA st hst ad N hA σ a np hF.n hF.n5) (cwV 1 hts (lw_V q863 q865 qs20 q55 q866) rfl rfl rfl (by decide +kernel) ⟨Nat.le_of_ble_eq_true rfl, Nat.le_of_ble_eq_true rfl⟩) ⟨mPre.blind, m_recv hE hP 0 (yl_n hA (by decide)) rfl rfl, mPre.at hE hP⟩ rfl rfl hl.1 rfl (lv_room (Nat.le_of_ble_eq_true rfl)) dX8_ring_24 ⟨Nat.le_of_ble_eq_true rfl, Nat.le_of_ble_eq_true rfl⟩) (fun r_22 hr_22 => ?_)
        subst hr_22
        refine lv_if_eq (tgt := 56) hx hb dX8_ring_27 (by decide) (fun c_23 => ?_) (fun c_23 => ?_)
        · have c_23 : ¬ (ik a np) := bi_f c_23
          refine lv_iconst (v := (-1)) hx hb dX8_ring_56 (by decide) ?_
          exact W.iret (v := (-1)) hx hb hr (fun t ht hW => ⟨⟨_, _, rfl, by dsimp only; rw [if_neg c_1, if_neg c_11, if_neg c_21, if_neg c_23]; exact ⟨rfl, rfl⟩, mB.of ht hP⟩, hS.F ht⟩) hS.2.2 dX8_ring_57
        · have c_23 : ik a np := bi_t c_23
          have c_23_lt := ik_lt c_23
          have c_23_m := hF.m c_23_lt
          have c_23_8 := hF.m8 c_23_lt
          refine lv_aload_n hx hb dX8_ring_30 rfl (lv_at hl 1 rfl) ?_
          refine lv_iload_n hx hb dX8_ring_31 rfl (lv_at hl 3 rfl) ?_
          refine vp_callSi (W.runV (As := [.int b]) (rest := []) ⟨hx, hb, hml, hown, hts⟩ (mt_X8_isOne l D dA st hst ad N hA σ b np hF.n hF.n5) (cwV 1 hts (lw_V q863 q865 qs20 q55 q866) rfl rfl rfl (by decide +kernel) ⟨Nat.le_of_ble_eq_true rfl, Nat.le_of_ble_eq_true rfl⟩) ⟨mPre.blind, m_recv hE hP 0 (yl_n hA (by decide)) rfl rfl, mPre.at hE hP⟩ rfl rfl hl.1 rfl (lv_room (Nat.le_of_ble_eq_true rfl)) dX8_ring_32 ⟨Nat.le_of_ble_eq_true rfl, Nat.le_of_ble_eq_true rfl⟩) (fun r_24 hr_24 => ?_)
          subst hr_24
          refine lv_if_eq (tgt := 56) hx hb dX8_ring_35 (by decide) (fun c_25 => ?_) (fun c_25 => ?_)
          · have c_25 : ¬ (ik b np) := bi_f c_25
            refine lv_iconst (v := (-1)) hx hb dX8_ring_56 (by decide) ?_
            exact W.iret (v := (-1)) hx hb hr (fun t ht hW => ⟨⟨_, _, rfl, by dsimp only; rw [if_neg c_1, if_neg c_11, if_neg c_21, if_pos c_23, if_neg c_25]; exact ⟨rfl, rfl⟩, mB.of ht hP⟩, hS.F ht⟩) hS.2.2 dX8_ring_57
          · have c_25 : ik b np := bi_t c_25
            have c_25_lt := ik_lt c_25
            have c_25_m := hF.m c_25_lt
            have c_25_8 := hF.m8 c_25_lt
            refine lv_iload_n hx hb dX8_ring_38 rfl (lv_at hl 4 rfl) ?_
            refine lv_iconst (v := (-1)) hx hb dX8_ring_39 (by decide) ?_
            refine lv_icmp_eq (tgt := 51) hx hb dX8_ring_40 (by decide) (fun c_26 => ?_) (fun c_26 => ?_)
            · skip
              have hcn : c < 0 := by rw [c_26]; decide
              refine lv_iload hx hb dX8_ring_51 (lv_at hl 0 rfl) ?_
              refine lv_if_eq (tgt := 58) hx hb dX8_ring_53 (by decide) (fun c_27 => ?_) (fun c_27 => ?_)
              · skip
                refine lv_aload_n hx hb dX8_ring_58 rfl (lv_at hl 1 rfl) ?_
                refine mg_ref hx hb hts in_X8 hown hE hP 0 (yl_n hA (by decide)) rfl rfl 1 rfl (by decide) (hts _ q765) (fun _ h9 => h9) dX8_ring_59 ?_
                refine lv_bipush (v := 40) hx hb dX8_ring_62 (by decide) ?_
                refine lv_iload_n hx hb dX8_ring_64 rfl (lv_at hl 2 rfl) ?_
                refine lv_imul hx hb dX8_ring_65 ?_
                refine lv_iconst (v := 3) hx hb dX8_ring_66 (by decide) ?_
                refine lv_iadd hx hb dX8_ring_67 ?_
                refine mg_ild hx hb hE hP 1 (yl_n hA (by decide)) rfl (40 * (tn a) + 3) (by omega) (mi_add (mi_mul rfl (ik_eq c_23)) rfl) (by decide) dX8_ring_68 ?_
                refine lv_if_eq (tgt := 104) hx hb dX8_ring_69 (by decide) (fun c_28 => ?_) (fun c_28 => ?_)
                · have nc_28 : nc (tn a) = 0 := mi_eq c_23_m rfl (by omega) (by omega) c_28
                  refine lv_bipush (v := (-2)) hx hb dX8_ring_104 (by decide) ?_
                  exact W.iret (v := (-2)) hx hb hr (fun t ht hW => ⟨⟨_, _, rfl, by dsimp only; rw [if_neg c_1, if_neg c_11, if_neg c_21, if_pos c_23, if_pos c_25, if_pos c_26, if_pos nc_28]; exact ⟨rfl, rfl⟩, mB.of ht hP⟩, hS.F ht⟩) hS.2.2 dX8_ring_106
                · have nc_28 : nc (tn a) ≠ 0 := mi_ne c_23_m rfl (by omega) (by omega) c_28
                  refine lv_aload_n hx hb dX8_ring_72 rfl (lv_at hl 1 rfl) ?_
                  refine mg_ref hx hb hts in_X8 hown hE hP 0 (yl_n hA (by decide)) rfl rfl 1 rfl (by decide) (hts _ q765) (fun _ h9 => h9) dX8_ring_73 ?_
                  refine lv_bipush (v := 40) hx hb dX8_ring_76 (by decide) ?_
                  refine lv_iload_n hx hb dX8_ring_78 rfl (lv_at hl 3 rfl) ?_
                  refine lv_imul hx hb dX8_ring_79 ?_
                  refine lv_iconst (v := 3) hx hb dX8_ring_80 (by decide) ?_
                  refine lv_iadd hx hb dX8_ring_81 ?_
                  refine mg_ild hx hb hE hP 1 (yl_n hA (by decide)) rfl (40 * (tn b) + 3) (by omega) (mi_add (mi_mul rfl (ik_eq c_25)) rfl) (by decide) dX8_ring_82 ?_
                  refine lv_if_eq (tgt := 104) hx hb dX8_ring_83 (by decide) (fun c_29 => ?_) (fun c_29 => ?_)
                  · have nc_29 : nc (tn b) = 0 := mi_eq c_25_m rfl (by omega) (by omega) c_29
                    refine lv_bipush (v := (-2)) hx hb dX8_ring_104 (by decide) ?_
                    exact W.iret (v := (-2)) hx hb hr (fun t ht hW => ⟨⟨_, _, rfl, by dsimp only; rw [if_neg c_1, if_neg c_11, if_neg c_21, if_pos c_23, if_pos c_25, if_pos c_26, if_neg nc_28, if_pos nc_29]; exact ⟨rfl, rfl⟩, mB.of ht hP⟩, hS.F ht⟩) hS.2.2 dX8_ring_106
                  · have nc_29 : nc (tn b) ≠ 0 := mi_ne c_25_m rfl (by omega) (by omega) c_29
                    refine lv_iload_n hx hb dX8_ring_86 rfl (lv_at hl 4 rfl) ?_
                    refine lv_if_lt (tgt := 107) hx hb dX8_ring_87 (by decide) (fun c_30 => ?_) (fun c_30 => ?_)
                    · skip
                      refine lv_aload_n hx hb dX8_ring_107 rfl (lv_at hl 1 rfl) ?_
                      refine lv_iload_n hx hb dX8_ring_108 rfl (lv_at hl 2 rfl) ?_
                      refine lv_iload_n hx hb dX8_ring_109 rfl (lv_at hl 3 rfl) ?_
                      refine lv_iload_n hx hb dX8_ring_110 rfl (lv_at hl 4 rfl) ?_
                      refine vp_callSi (W.runV (As := [.int a, .int b, .int c]) (rest := []) ⟨hx, hb, hml, hown, hts⟩ (mt_X8_saved l D dA st hst ad N hA σ a b c np nc ld hF c_23 c_25 (Or.inl hcn) (by omega) (by omega) (fun k => absurd hcn (by rw [i_lt]; exact Int.not_lt.mpr k.1))) (cwV 3 hts (lw_V q986 q988 qs33 q55 q989) rfl rfl rfl (by decide +kernel) ⟨Nat.le_of_ble_eq_true rfl, Nat.le_of_ble_eq_true rfl⟩) ⟨mPre.blind, m_recv hE hP 0 (yl_n hA (by decide)) rfl rfl, mPre.at hE hP⟩ rfl rfl hl.1 rfl (lv_room (Nat.le_of_ble_eq_true rfl)) dX8_ring_111 ⟨Nat.le_of_ble_eq_true rfl, Nat.le_of_ble_eq_true rfl⟩) (fun r_31 hr_31 => ?_)
                      subst hr_31
                      refine lv_istore (lv' := [(5, .int (svM σ nc ld (tn a) (tn b) c)), (4, .int 0), (0, .ref (ad 0)), (1, .int a), (2, .int b), (3, .int c)]) hx hb dX8_ring_114 hl (by decide) rfl (fun ls hl => ?_)
                      refine lv_iload hx hb dX8_ring_116 (lv_at hl 0 rfl) ?_
                      refine lv_if_ne (tgt := 124) hx hb dX8_ring_118 (by decide) (fun c_32 => ?_) (fun c_32 => ?_)
                      · skip
                        refine lv_iload_n hx hb dX8_ring_124 rfl (lv_at hl 5 rfl) ?_
                        refine lv_if_ge (tgt := 132) hx hb dX8_ring_125 (by decide) (fun c_33 => ?_) (fun c_33 => ?_)
                        · skip
                          exact absurd hcn (Int32.not_lt.mpr c_33)
                        · skip
                          refine lv_iload_n hx hb dX8_ring_128 rfl (lv_at hl 4 rfl) ?_
                          refine lv_goto (tgt := 133) hx hb dX8_ring_129 (by decide) ?_
                          refine lv_istore (lv' := [(6, .int b), (5, .int (svM σ nc ld (tn a) (tn b) c)), (4, .int 0), (0, .ref (ad 0)), (1, .int a), (2, .int b), (3, .int c)]) hx hb dX8_ring_133 hl (by decide) rfl (fun ls hl => ?_)
                          refine lv_iconst (v := 0) hx hb dX8_ring_135 (by decide) ?_
                          refine lv_istore (lv' := [(7, .int 0), (6, .int b), (5, .int (svM σ nc ld (tn a) (tn b) c)), (4, .int 0), (0, .ref (ad 0)), (1, .int a), (2, .int b), (3, .int c)]) hx hb dX8_ring_136 hl (by decide) rfl (fun ls hl => ?_)
                          have lp138 : ∀ (fu : Nat) (k : Nat) (_ : k ≤ 4) (_ : 4 - k < fu) (H : Heap) (locs : List Loc) (_ : va_P D xCl (mW dA (shM st) ad N (rm2 σ (40 * tn a + 8 + 4 * (nc (tn a) - 1)) (40 * tn b + 8 + 4 * (nc (tn b) - 1)) k)) H) (_ : va_S (mAd ad N) ss.heap H locs) (ls : Array Slot) (_ : lv_has ls 9 [(7, .int (nI k)), (6, .int b), (5, .int (svM σ nc ld (tn a) (tn b) c)), (4, .int 0), (0, .ref (ad 0)), (1, .int a), (2, .int b), (3, .int c)]), W pp l ee (headSpec (ws_ yX8_ring cX8_ring 9 (some .int)) ({ frames := 3, cells := 0, slots := 0, locals := 70 })).room ss mm ([.ref (ad 0), .int a, .int b, .int c] : List Value).toArray below meth cd H locs 0 0 (MQ below (va_Qi (fun (r : Int32) (u : mMem) => (if a = b then (r = -1 ∧ u = σ) else (if a = c then (r = -1 ∧ u = σ) else (if b = c then (r = -1 ∧ u = σ) else (if ik a np then (if ik b np then (if c = -1 then (if nc (tn a) = 0 then (r = -2 ∧ u = σ) else (if nc (tn b) = 0 then (r = -2 ∧ u = σ) else (if svM σ nc ld (tn a) (tn b) c = 0 then (r = -4 ∧ u = σ) else (r = svM σ nc ld (tn a) (tn b) c ∧ u = rngY σ nc (tn a) (tn b) c)))) else (if ik c np then (if nc (tn a) = 0 then (r = -2 ∧ u = σ) else (if nc (tn b) = 0 then (r = -2 ∧ u = σ) else (if nc (tn c) = 0 then (r = -2 ∧ u = σ) else (if svM σ nc ld (tn a) (tn b) c = 0 then (r = -4 ∧ u = σ) else (r = svM σ nc ld (tn a) (tn b) c ∧ u = rngY σ nc (tn a) (tn b) c))))) else (r = -1 ∧ u = σ))) else (r = -1 ∧ u = σ)) else (r = -1 ∧ u = σ)))))) (mB D dA (shM st) ad N) (mAd ad N)) ([.ref (ad 0), .int a, .int b, .int c] : List Value).toArray ss 0 0 (mAd ad N)) (F0 mm 138 ls []) := by
                            intro fu
                            induction fu with
                            | zero => intro k hk hfu; exact absurd hfu (Nat.not_lt_zero _)
                            | succ fu ih138 =>
                              intro k hk hfu H locs hP hS ls hl
                              refine lv_iload hx hb dX8_ring_138 (lv_at hl 0 rfl) ?_
                              refine lv_iconst (v := 4) hx hb dX8_ring_140 (by decide) ?_
                              refine lv_icmp_ge (tgt := 258) hx hb dX8_ring_141 (by decide) (fun c_34 => ?_) (fun c_34 => ?_)
                              · have nc_34 : 4 ≤ k := mi_le rfl rfl (by omega) (by omega) c_34
                                refine lv_iload hx hb dX8_ring_258 (lv_at hl 2 rfl) ?_
                                exact W.iret (v := (svM σ nc ld (tn a) (tn b) c)) hx hb hr (fun t ht hW => ⟨⟨_, _, rfl, by dsimp only; rw [if_neg c_1, if_neg c_11, if_neg c_21, if_pos c_23, if_pos c_25, if_pos c_26, if_neg nc_28, if_neg nc_29, if_neg c_32]; exact ⟨rfl, by rw [rngY, if_pos hcn, show k = 4 by omega]⟩, mB.of ht hP⟩, hS.F ht⟩) hS.2.2 dX8_ring_260
                              · have nc_34 : k < 4 := mi_nle rfl rfl (by omega) (by omega) c_34
                                refine lv_aload_n hx hb dX8_ring_144 rfl (lv_at hl 4 rfl) ?_
                                refine mg_ref hx hb hts in_X8 hown hE hP 0 (yl_n hA (by decide)) rfl rfl 1 rfl (by decide) (hts _ q765) (fun _ h9 => h9) dX8_ring_145 ?_
                                refine lv_aload_n hx hb dX8_ring_148 rfl (lv_at hl 4 rfl) ?_
                                refine lv_iload hx hb dX8_ring_149 (lv_at hl 1 rfl) ?_
                                refine vp_callSi (W.runV (As := [.int b]) (rest := [.ref (ad 1)]) ⟨hx, hb, hml, hown, hts⟩ (mt_X8_outer l D dA st hst ad N hA (rm2 σ (40 * tn a + 8 + 4 * (nc (tn a) - 1)) (40 * tn b + 8 + 4 * (nc (tn b) - 1)) k) b (tn b) (ik_eq c_25) (by omega) (nc (tn b)) ((rm2_3 (by omega) (by omega)).trans c_25_m) (by omega) (by omega)) (cwV 1 hts (lw_V q994 q996 qs35 q55 q997) rfl rfl rfl (by decide +kernel) ⟨Nat.le_of_ble_eq_true rfl, Nat.le_of_ble_eq_true rfl⟩) ⟨mPre.blind, m_recv hE hP 0 (yl_n hA (by decide)) rfl rfl, mPre.at hE hP⟩ rfl rfl hl.1 rfl (lv_room (Nat.le_of_ble_eq_true rfl)) dX8_ring_151 ⟨Nat.le_of_ble_eq_true rfl, Nat.le_of_ble_eq_true rfl⟩) (fun r_35 hr_35 => ?_)
                                subst hr_35
                                refine lv_iload hx hb dX8_ring_154 (lv_at hl 0 rfl) ?_
                                refine lv_iadd hx hb dX8_ring_156 ?_
                                refine mg_ild hx hb hE hP 1 (yl_n hA (by decide)) rfl ((40 * (tn b) + 8 + 4 * (nc (tn b) - 1)) + k) (by omega) (mi_add rfl rfl) (by decide) dX8_ring_157 ?_
                                refine lv_istore (lv' := [(8, .int ((rm2 σ (40 * tn a + 8 + 4 * (nc (tn a) - 1)) (40 * tn b + 8 + 4 * (nc (tn b) - 1)) k) 1 ((40 * (tn b) + 8 + 4 * (nc (tn b) - 1)) + k))), (7, .int (nI k)), (6, .int b), (5, .int (svM σ nc ld (tn a) (tn b) c)), (4, .int 0), (0, .ref (ad 0)), (1, .int a), (2, .int b), (3, .int c)]) hx hb dX8_ring_158 hl (by decide) rfl (fun ls hl => ?_)
                                refine lv_aload_n hx hb dX8_ring_160 rfl (lv_at hl 5 rfl) ?_
                                refine mg_ref hx hb hts in_X8 hown hE hP 0 (yl_n hA (by decide)) rfl rfl 1 rfl (by decide) (hts _ q765) (fun _ h9 => h9) dX8_ring_161 ?_
                                refine lv_aload_n hx hb dX8_ring_164 rfl (lv_at hl 5 rfl) ?_
                                refine lv_iload hx hb dX8_ring_165 (lv_at hl 2 rfl) ?_
                                refine vp_callSi (W.runV (As := [.int b]) (rest := [.ref (ad 1)]) ⟨hx, hb, hml, hown, hts⟩ (mt_X8_outer l D dA st hst ad N hA (rm2 σ (40 * tn a + 8 + 4 * (nc (tn a) - 1)) (40 * tn b + 8 + 4 * (nc (tn b) - 1)) k) b (tn b) (ik_eq c_25) (by omega) (nc (tn b)) ((rm2_3 (by omega) (by omega)).trans c_25_m) (by omega) (by omega)) (cwV 1 hts (lw_V q994 q996 qs35 q55 q997) rfl rfl rfl (by decide +kernel) ⟨Nat.le_of_ble_eq_true rfl, Nat.le_of_ble_eq_true rfl⟩) ⟨mPre.blind, m_recv hE hP 0 (yl_n hA (by decide)) rfl rfl, mPre.at hE hP⟩ rfl rfl hl.1 rfl (lv_room (Nat.le_of_ble_eq_true rfl)) dX8_ring_167 ⟨Nat.le_of_ble_eq_true rfl, Nat.le_of_ble_eq_true rfl⟩) (fun r_36 hr_36 => ?_)
                                subst hr_36
                                refine lv_iload hx hb dX8_ring_170 (lv_at hl 1 rfl) ?_
                                refine lv_iadd hx hb dX8_ring_172 ?_
                                refine lv_iload_n hx hb dX8_ring_173 rfl (lv_at hl 8 rfl) ?_
                                refine lv_if_ge (tgt := 193) hx hb dX8_ring_174 (by decide) (fun c_37 => ?_) (fun c_37 => ?_)
                                · skip
                                  exact absurd hcn (Int32.not_lt.mpr c_37)
                                · skip
                                  refine lv_aload_n hx hb dX8_ring_177 rfl (lv_at hl 5 rfl) ?_
                                  refine mg_ref hx hb hts in_X8 hown hE hP 0 (yl_n hA (by decide)) rfl rfl 1 rfl (by decide) (hts _ q765) (fun _ h9 => h9) dX8_ring_178 ?_
                                  refine lv_aload_n hx hb dX8_ring_181 rfl (lv_at hl 5 rfl) ?_
                                  refine lv_iload_n hx hb dX8_ring_182 rfl (lv_at hl 6 rfl) ?_
                                  refine vp_callSi (W.runV (As := [.int a]) (rest := [.ref (ad 1), .int ((nI (40 * (tn b) + 8 + 4 * (nc (tn b) - 1))) + (nI k)), .ref (ad 1)]) ⟨hx, hb, hml, hown, hts⟩ (mt_X8_outer l D dA st hst ad N hA (rm2 σ (40 * tn a + 8 + 4 * (nc (tn a) - 1)) (40 * tn b + 8 + 4 * (nc (tn b) - 1)) k) a (tn a) (ik_eq c_23) (by omega) (nc (tn a)) ((rm2_3 (by omega) (by omega)).trans c_23_m) (by omega) (by omega)) (cwV 1 hts (lw_V q994 q996 qs35 q55 q997) rfl rfl rfl (by decide +kernel) ⟨Nat.le_of_ble_eq_true rfl, Nat.le_of_ble_eq_true rfl⟩) ⟨mPre.blind, m_recv hE hP 0 (yl_n hA (by decide)) rfl rfl, mPre.at hE hP⟩ rfl rfl hl.1 rfl (lv_room (Nat.le_of_ble_eq_true rfl)) dX8_ring_183 ⟨Nat.le_of_ble_eq_true rfl, Nat.le_of_ble_eq_true rfl⟩) (fun r_38 hr_38 => ?_)
                                  subst hr_38
                                  refine lv_iload hx hb dX8_ring_186 (lv_at hl 1 rfl) ?_
                                  refine lv_iadd hx hb dX8_ring_188 ?_
                                  refine mg_ild hx hb hE hP 1 (yl_n hA (by decide)) rfl ((40 * (tn a) + 8 + 4 * (nc (tn a) - 1)) + k) (by omega) (mi_add rfl rfl) (by decide) dX8_ring_189 ?_
                                  refine lv_goto (tgt := 206) hx hb dX8_ring_190 (by decide) ?_
                                  refine mg_ist (v := (rm2 σ (40 * tn a + 8 + 4 * (nc (tn a) - 1)) (40 * tn b + 8 + 4 * (nc (tn b) - 1)) k) 1 ((40 * (tn a) + 8 + 4 * (nc (tn a) - 1)) + k)) hx hb hE hD hP hS 1 (yl_n hA (by decide)) rfl ((40 * (tn b) + 8 + 4 * (nc (tn b) - 1)) + k) (by omega) (mi_add rfl rfl) (by decide) dX8_ring_206 (fun H locs hP hS => ?_)
                                  refine lv_iload_n hx hb dX8_ring_207 rfl (lv_at hl 8 rfl) ?_
                                  refine lv_if_lt (tgt := 237) hx hb dX8_ring_208 (by decide) (fun c_39 => ?_) (fun c_39 => ?_)
                                  · skip
                                    refine lv_aload_n hx hb dX8_ring_237 rfl (lv_at hl 5 rfl) ?_
                                    refine mg_ref hx hb hts in_X8 hown hE hP 0 (yl_n hA (by decide)) rfl rfl 1 rfl (by decide) (hts _ q765) (fun _ h9 => h9) dX8_ring_238 ?_
                                    refine lv_aload_n hx hb dX8_ring_241 rfl (lv_at hl 5 rfl) ?_
                                    refine lv_iload_n hx hb dX8_ring_242 rfl (lv_at hl 6 rfl) ?_
                                    refine vp_callSi (W.runV (As := [.int a]) (rest := [.ref (ad 1)]) ⟨hx, hb, hml, hown, hts⟩ (mt_X8_outer l D dA st hst ad N hA (mup (rm2 σ (40 * tn a + 8 + 4 * (nc (tn a) - 1)) (40 * tn b + 8 + 4 * (nc (tn b) - 1)) k) 1 ((40 * (tn b) + 8 + 4 * (nc (tn b) - 1)) + k) ((rm2 σ (40 * tn a + 8 + 4 * (nc (tn a) - 1)) (40 * tn b + 8 + 4 * (nc (tn b) - 1)) k) 1 ((40 * (tn a) + 8 + 4 * (nc (tn a) - 1)) + k))) a (tn a) (ik_eq c_23) (by omega) (nc (tn a)) ((mup_ne2 (by omega)).trans ((rm2_3 (by omega) (by omega)).trans c_23_m)) (by omega) (by omega)) (cwV 1 hts (lw_V q994 q996 qs35 q55 q997) rfl rfl rfl (by decide +kernel) ⟨Nat.le_of_ble_eq_true rfl, Nat.le_of_ble_eq_true rfl⟩) ⟨mPre.blind, m_recv hE hP 0 (yl_n hA (by decide)) rfl rfl, mPre.at hE hP⟩ rfl rfl hl.1 rfl (lv_room (Nat.le_of_ble_eq_true rfl)) dX8_ring_243 ⟨Nat.le_of_ble_eq_true rfl, Nat.le_of_ble_eq_true rfl⟩) (fun r_40 hr_40 => ?_)
                                    subst hr_40
                                    refine lv_iload hx hb dX8_ring_246 (lv_at hl 1 rfl) ?_
                                    refine lv_iadd hx hb dX8_ring_248 ?_
                                    refine lv_iload hx hb dX8_ring_249 (lv_at hl 0 rfl) ?_
                                    refine mg_ist (v := (rm2 σ (40 * tn a + 8 + 4 * (nc (tn a) - 1)) (40 * tn b + 8 + 4 * (nc (tn b) - 1)) k) 1 ((40 * (tn b) + 8 + 4 * (nc (tn b) - 1)) + k)) hx hb hE hD hP hS 1 (yl_n hA (by decide)) rfl ((40 * (tn a) + 8 + 4 * (nc (tn a) - 1)) + k) (by omega) (mi_add rfl rfl) (by decide) dX8_ring_251 (fun H locs hP hS => ?_)
                                    refine lv_iinc (v := (nI (k + 1))) (lv' := [(7, .int (nI (k + 1))), (8, .int ((rm2 σ (40 * tn a + 8 + 4 * (nc (tn a) - 1)) (40 * tn b + 8 + 4 * (nc (tn b) - 1)) k) 1 ((40 * (tn b) + 8 + 4 * (nc (tn b) - 1)) + k))), (6, .int b), (5, .int (svM σ nc ld (tn a) (tn b) c)), (4, .int 0), (0, .ref (ad 0)), (1, .int a), (2, .int b), (3, .int c)]) hx hb dX8_ring_252 hl (k := 1) rfl (mi_add rfl rfl) (by decide) rfl (fun ls hl => ?_)
                                    refine lv_goto (tgt := 138) hx hb dX8_ring_255 (by decide) ?_
                                    exact ih138  (k + 1) (by omega) (by omega) _ _ (m_eq (rfl) hP) hS ls (lv_sub hl [0, 2, 3, 4, 5, 6, 7, 8] rfl)
                                  · skip
                                    exact absurd hcn c_39
                          exact lp138 (4 - 0 + 1) 0 (by omega) (by omega) _ _ (m_eq (rfl) hP) hS ls (lv_sub hl [0, 1, 2, 3, 4, 5, 6, 7] rfl)
                      · skip
                        refine lv_bipush (v := (-4)) hx hb dX8_ring_121 (by decide) ?_
                        exact W.iret (v := (-4)) hx hb hr (fun t ht hW => ⟨⟨_, _, rfl, by dsimp only; rw [if_neg c_1, if_neg c_11, if_neg c_21, if_pos c_23, if_pos c_25, if_pos c_26, if_neg nc_28, if_neg nc_29, if_pos c_32]; exact ⟨rfl, rfl⟩, mB.of ht hP⟩, hS.F ht⟩) hS.2.2 dX8_ring_123
                    · skip
                      exact absurd hcn c_30
              · skip
                exact absurd c_27 (by decide)
            · skip
              refine lv_aload_n hx hb dX8_ring_43 rfl (lv_at hl 1 rfl) ?_
              refine lv_iload_n hx hb dX8_ring_44 rfl (lv_at hl 4 rfl) ?_
              refine vp_callSi (W.runV (As := [.int c]) (rest := []) ⟨hx, hb, hml, hown, hts⟩ (mt_X8_isOne l D dA st hst ad N hA σ c np hF.n hF.n5) (cwV 1 hts (lw_V q863 q865 qs20 q55 q866) rfl rfl rfl (by decide +kernel) ⟨Nat.le_of_ble_eq_true rfl, Nat.le_of_ble_eq_true rfl⟩) ⟨mPre.blind, m_recv hE hP 0 (yl_n hA (by decide)) rfl rfl, mPre.at hE hP⟩ rfl rfl hl.1 rfl (lv_room (Nat.le_of_ble_eq_true rfl)) dX8_ring_45 ⟨Nat.le_of_ble_eq_true rfl, Nat.le_of_ble_eq_true rfl⟩) (fun r_41 hr_41 => ?_)
              subst hr_41
              refine lv_if_eq (tgt := 56) hx hb dX8_ring_48 (by decide) (fun c_42 => ?_) (fun c_42 => ?_)
              · have c_42 : ¬ (ik c np) := bi_f c_42
                refine lv_iconst (v := (-1)) hx hb dX8_ring_56 (by decide) ?_
                exact W.iret (v := (-1)) hx hb hr (fun t ht hW => ⟨⟨_, _, rfl, by dsimp only; rw [if_neg c_1, if_neg c_11, if_neg c_21, if_pos c_23, if_pos c_25, if_neg c_26, if_neg c_42]; exact ⟨rfl, rfl⟩, mB.of ht hP⟩, hS.F ht⟩) hS.2.2 dX8_ring_57
              · have c_42 : ik c np := bi_t c_42
                have c_42_lt := ik_lt c_42
                have c_42_m := hF.m c_42_lt
                have c_42_8 := hF.m8 c_42_lt
                have hcp : ¬ c < 0 := by rw [i_lt]; exact Int.not_lt.mpr c_42.1
                refine lv_iload hx hb dX8_ring_51 (lv_at hl 0 rfl) ?_
                refine lv_if_eq (tgt := 58) hx hb dX8_ring_53 (by decide) (fun c_43 => ?_) (fun c_43 => ?_)
                · skip
                  refine lv_aload_n hx hb dX8_ring_58 rfl (lv_at hl 1 rfl) ?_
                  refine mg_ref hx hb hts in_X8 hown hE hP 0 (yl_n hA (by decide)) rfl rfl 1 rfl (by decide) (hts _ q765) (fun _ h9 => h9) dX8_ring_59 ?_
                  refine lv_bipush (v := 40) hx hb dX8_ring_62 (by decide) ?_
                  refine lv_iload_n hx hb dX8_ring_64 rfl (lv_at hl 2 rfl) ?_
                  refine lv_imul hx hb dX8_ring_65 ?_
                  refine lv_iconst (v := 3) hx hb dX8_ring_66 (by decide) ?_
                  refine lv_iadd hx hb dX8_ring_67 ?_
                  refine mg_ild hx hb hE hP 1 (yl_n hA (by decide)) rfl (40 * (tn a) + 3) (by omega) (mi_add (mi_mul rfl (ik_eq c_23)) rfl) (by decide) dX8_ring_68 ?_
                  refine lv_if_eq (tgt := 104) hx hb dX8_ring_69 (by decide) (fun c_44 => ?_) (fun c_44 => ?_)
                  · have nc_44 : nc (tn a) = 0 := mi_eq c_23_m rfl (by omega) (by omega) c_44
                    refine lv_bipush (v := (-2)) hx hb dX8_ring_104 (by decide) ?_
                    exact W.iret (v := (-2)) hx hb hr (fun t ht hW => ⟨⟨_, _, rfl, by dsimp only; rw [if_neg c_1, if_neg c_11, if_neg c_21, if_pos c_23, if_pos c_25, if_neg c_26, if_pos c_42, if_pos nc_44]; exact ⟨rfl, rfl⟩, mB.of ht hP⟩, hS.F ht⟩) hS.2.2 dX8_ring_106
                  · have nc_44 : nc (tn a) ≠ 0 := mi_ne c_23_m rfl (by omega) (by omega) c_44
                    refine lv_aload_n hx hb dX8_ring_72 rfl (lv_at hl 1 rfl) ?_
                    refine mg_ref hx hb hts in_X8 hown hE hP 0 (yl_n hA (by decide)) rfl rfl 1 rfl (by decide) (hts _ q765) (fun _ h9 => h9) dX8_ring_73 ?_
                    refine lv_bipush (v := 40) hx hb dX8_ring_76 (by decide) ?_
                    refine lv_iload_n hx hb dX8_ring_78 rfl (lv_at hl 3 rfl) ?_
                    refine lv_imul hx hb dX8_ring_79 ?_
                    refine lv_iconst (v := 3) hx hb dX8_ring_80 (by decide) ?_
                    refine lv_iadd hx hb dX8_ring_81 ?_
                    refine mg_ild hx hb hE hP 1 (yl_n hA (by decide)) rfl (40 * (tn b) + 3) (by omega) (mi_add (mi_mul rfl (ik_eq c_25)) rfl) (by decide) dX8_ring_82 ?_
                    refine lv_if_eq (tgt := 104) hx hb dX8_ring_83 (by decide) (fun c_45 => ?_) (fun c_45 => ?_)
                    · have nc_45 : nc (tn b) = 0 := mi_eq c_25_m rfl (by omega) (by omega) c_45
                      refine lv_bipush (v := (-2)) hx hb dX8_ring_104 (by decide) ?_
                      exact W.iret (v := (-2)) hx hb hr (fun t ht hW => ⟨⟨_, _, rfl, by dsimp only; rw [if_neg c_1, if_neg c_11, if_neg c_21, if_pos c_23, if_pos c_25, if_neg c_26, if_pos c_42, if_neg nc_44, if_pos nc_45]; exact ⟨rfl, rfl⟩, mB.of ht hP⟩, hS.F ht⟩) hS.2.2 dX8_ring_106
                    · have nc_45 : nc (tn b) ≠ 0 := mi_ne c_25_m rfl (by omega) (by omega) c_45
                      refine lv_iload_n hx hb dX8_ring_86 rfl (lv_at hl 4 rfl) ?_
                      refine lv_if_lt (tgt := 107) hx hb dX8_ring_87 (by decide) (fun c_46 => ?_) (fun c_46 => ?_)
                      · have nc_46 : tn c < 0 := mi_lt (ik_eq c_42) rfl (by omega) (by omega) c_46
                        exact absurd c_46 hcp
                      · have nc_46 : 0 ≤ tn c := mi_nlt (ik_eq c_42) rfl (by omega) (by omega) c_46
                        refine lv_aload_n hx hb dX8_ring_90 rfl (lv_at hl 1 rfl) ?_
                        refine mg_ref hx hb hts in_X8 hown hE hP 0 (yl_n hA (by decide)) rfl rfl 1 rfl (by decide) (hts _ q765) (fun _ h9 => h9) dX8_ring_91 ?_
                        refine lv_bipush (v := 40) hx hb dX8_ring_94 (by decide) ?_
                        refine lv_iload_n hx hb dX8_ring_96 rfl (lv_at hl 4 rfl) ?_
                        refine lv_imul hx hb dX8_ring_97 ?_
                        refine lv_iconst (v := 3) hx hb dX8_ring_98 (by decide) ?_
                        refine lv_iadd hx hb dX8_ring_99 ?_
                        refine mg_ild hx hb hE hP 1 (yl_n hA (by decide)) rfl (40 * (tn c) + 3) (by omega) (mi_add (mi_mul rfl (ik_eq c_42)) rfl) (by decide) dX8_ring_100 ?_
                        refine lv_if_ne (tgt := 107) hx hb dX8_ring_101 (by decide) (fun c_47 => ?_) (fun c_47 => ?_)
                        · have nc_47 : nc (tn c) ≠ 0 := mi_ne c_42_m rfl (by omega) (by omega) c_47
                          refine lv_aload_n hx hb dX8_ring_107 rfl (lv_at hl 1 rfl) ?_
                          refine lv_iload_n hx hb dX8_ring_108 rfl (lv_at hl 2 rfl) ?_
                          refine lv_iload_n hx hb dX8_ring_109 rfl (lv_at hl 3 rfl) ?_
                          refine lv_iload_n hx hb dX8_ring_110 rfl (lv_at hl 4 rfl) ?_
                          refine vp_callSi (W.runV (As := [.int a, .int b, .int c]) (rest := []) ⟨hx, hb, hml, hown, hts⟩ (mt_X8_saved l D dA st hst ad N hA σ a b c np nc ld hF c_23 c_25 (Or.inr c_42) (by omega) (by omega) (fun _ => by omega)) (cwV 3 hts (lw_V q986 q988 qs33 q55 q989) rfl rfl rfl (by decide +kernel) ⟨Nat.le_of_ble_eq_true rfl, Nat.le_of_ble_eq_true rfl⟩) ⟨mPre.blind, m_recv hE hP 0 (yl_n hA (by decide)) rfl rfl, mPre.at hE hP⟩ rfl rfl hl.1 rfl (lv_room (Nat.le_of_ble_eq_true rfl)) dX8_ring_111 ⟨Nat.le_of_ble_eq_true rfl, Nat.le_of_ble_eq_true rfl⟩) (fun r_48 hr_48 => ?_)
                          subst hr_48
                          refine lv_istore (lv' := [(5, .int (svM σ nc ld (tn a) (tn b) c)), (4, .int 0), (0, .ref (ad 0)), (1, .int a), (2, .int b), (3, .int c)]) hx hb dX8_ring_114 hl (by decide) rfl (fun ls hl => ?_)
                          refine lv_iload hx hb dX8_ring_116 (lv_at hl 0 rfl) ?_
                          refine lv_if_ne (tgt := 124) hx hb dX8_ring_118 (by decide) (fun c_49 => ?_) (fun c_49 => ?_)
                          · skip
                            refine lv_iload_n hx hb dX8_ring_124 rfl (lv_at hl 5 rfl) ?_
                            refine lv_if_ge (tgt := 132) hx hb dX8_ring_125 (by decide) (fun c_50 => ?_) (fun c_50 => ?_)
                            · have nc_50 : 0 ≤ tn c := mi_le rfl (ik_eq c_42) (by omega) (by omega) c_50
                              refine lv_iload_n hx hb dX8_ring_132 rfl (lv_at hl 5 rfl) ?_
                              refine lv_istore (lv' := [(6, .int c), (5, .int (svM σ nc ld (tn a) (tn b) c)), (4, .int 0), (0, .ref (ad 0)), (1, .int a), (2, .int b), (3, .int c)]) hx hb dX8_ring_133 hl (by decide) rfl (fun ls hl => ?_)
                              refine lv_iconst (v := 0) hx hb dX8_ring_135 (by decide) ?_
                              refine lv_istore (lv' := [(7, .int 0), (6, .int c), (5, .int (svM σ nc ld (tn a) (tn b) c)), (4, .int 0), (0, .ref (ad 0)), (1, .int a), (2, .int b), (3, .int c)]) hx hb dX8_ring_136 hl (by decide) rfl (fun ls hl => ?_)
                              have lp138 : ∀ (fu : Nat) (k : Nat) (_ : k ≤ 4) (_ : 4 - k < fu) (H : Heap) (locs : List Loc) (_ : va_P D xCl (mW dA (shM st) ad N (rm3 σ (40 * tn a + 8 + 4 * (nc (tn a) - 1)) (40 * tn b + 8 + 4 * (nc (tn b) - 1)) (40 * tn c + 8 + 4 * (nc (tn c) - 1)) k)) H) (_ : va_S (mAd ad N) ss.heap H locs) (ls : Array Slot) (_ : lv_has ls 9 [(7, .int (nI k)), (6, .int c), (5, .int (svM σ nc ld (tn a) (tn b) c)), (4, .int 0), (0, .ref (ad 0)), (1, .int a), (2, .int b), (3, .int c)]), W pp l ee (headSpec (ws_ yX8_ring cX8_ring 9 (some .int)) ({ frames := 3, cells := 0, slots := 0, locals := 70 })).room ss mm ([.ref (ad 0), .int a, .int b, .int c] : List Value).toArray below meth cd H locs 0 0 (MQ below (va_Qi (fun (r : Int32) (u : mMem) => (if a = b then (r = -1 ∧ u = σ) else (if a = c then (r = -1 ∧ u = σ) else (if b = c then (r = -1 ∧ u = σ) else (if ik a np then (if ik b np then (if c = -1 then (if nc (tn a) = 0 then (r = -2 ∧ u = σ) else (if nc (tn b) = 0 then (r = -2 ∧ u = σ) else (if svM σ nc ld (tn a) (tn b) c = 0 then (r = -4 ∧ u = σ) else (r = svM σ nc ld (tn a) (tn b) c ∧ u = rngY σ nc (tn a) (tn b) c)))) else (if ik c np then (if nc (tn a) = 0 then (r = -2 ∧ u = σ) else (if nc (tn b) = 0 then (r = -2 ∧ u = σ) else (if nc (tn c) = 0 then (r = -2 ∧ u = σ) else (if svM σ nc ld (tn a) (tn b) c = 0 then (r = -4 ∧ u = σ) else (r = svM σ nc ld (tn a) (tn b) c ∧ u = rngY σ nc (tn a) (tn b) c))))) else (r = -1 ∧ u = σ))) else (r = -1 ∧ u = σ)) else (r = -1 ∧ u = σ)))))) (mB D dA (shM st) ad N) (mAd ad N)) ([.ref (ad 0), .int a, .int b, .int c] : List Value).toArray ss 0 0 (mAd ad N)) (F0 mm 138 ls []) := by
                                intro fu
                                induction fu with
                                | zero => intro k hk hfu; exact absurd hfu (Nat.not_lt_zero _)
                                | succ fu ih138 =>
                                  intro k hk hfu H locs hP hS ls hl
                                  refine lv_iload hx hb dX8_ring_138 (lv_at hl 0 rfl) ?_
                                  refine lv_iconst (v := 4) hx hb dX8_ring_140 (by decide) ?_
                                  refine lv_icmp_ge (tgt := 258) hx hb dX8_ring_141 (by decide) (fun c_51 => ?_) (fun c_51 => ?_)
                                  · have nc_51 : 4 ≤ k := mi_le rfl rfl (by omega) (by omega) c_51
                                    refine lv_iload hx hb dX8_ring_258 (lv_at hl 2 rfl) ?_
                                    exact W.iret (v := (svM σ nc ld (tn a) (tn b) c)) hx hb hr (fun t ht hW => ⟨⟨_, _, rfl, by dsimp only; rw [if_neg c_1, if_neg c_11, if_neg c_21, if_pos c_23, if_pos c_25, if_neg c_26, if_pos c_42, if_neg nc_44, if_neg nc_45, if_neg nc_47, if_neg c_49]; exact ⟨rfl, by rw [rngY, if_neg hcp, show k = 4 by omega]⟩, mB.of ht hP⟩, hS.F ht⟩) hS.2.2 dX8_ring_260
                                  · have nc_51 : k < 4 := mi_nle rfl rfl (by omega) (by omega) c_51
                                    refine lv_aload_n hx hb dX8_ring_144 rfl (lv_at hl 4 rfl) ?_
                                    refine mg_ref hx hb hts in_X8 hown hE hP 0 (yl_n hA (by decide)) rfl rfl 1 rfl (by decide) (hts _ q765) (fun _ h9 => h9) dX8_ring_145 ?_
                                    refine lv_aload_n hx hb dX8_ring_148 rfl (lv_at hl 4 rfl) ?_
                                    refine lv_iload hx hb dX8_ring_149 (lv_at hl 1 rfl) ?_
                                    refine vp_callSi (W.runV (As := [.int c]) (rest := [.ref (ad 1)]) ⟨hx, hb, hml, hown, hts⟩ (mt_X8_outer l D dA st hst ad N hA (rm3 σ (40 * tn a + 8 + 4 * (nc (tn a) - 1)) (40 * tn b + 8 + 4 * (nc (tn b) - 1)) (40 * tn c + 8 + 4 * (nc (tn c) - 1)) k) c (tn c) (ik_eq c_42) (by omega) (nc (tn c)) ((rm3_3 (by omega) (by omega) (by omega)).trans c_42_m) (by omega) (by omega)) (cwV 1 hts (lw_V q994 q996 qs35 q55 q997) rfl rfl rfl (by decide +kernel) ⟨Nat.le_of_ble_eq_true rfl, Nat.le_of_ble_eq_true rfl⟩) ⟨mPre.blind, m_recv hE hP 0 (yl_n hA (by decide)) rfl rfl, mPre.at hE hP⟩ rfl rfl hl.1 rfl (lv_room (Nat.le_of_ble_eq_true rfl)) dX8_ring_151 ⟨Nat.le_of_ble_eq_true rfl, Nat.le_of_ble_eq_true rfl⟩) (fun r_52 hr_52 => ?_)
                                    subst hr_52
                                    refine lv_iload hx hb dX8_ring_154 (lv_at hl 0 rfl) ?_
                                    refine lv_iadd hx hb dX8_ring_156 ?_
                                    refine mg_ild hx hb hE hP 1 (yl_n hA (by decide)) rfl ((40 * (tn c) + 8 + 4 * (nc (tn c) - 1)) + k) (by omega) (mi_add rfl rfl) (by decide) dX8_ring_157 ?_
                                    refine lv_istore (lv' := [(8, .int ((rm3 σ (40 * tn a + 8 + 4 * (nc (tn a) - 1)) (40 * tn b + 8 + 4 * (nc (tn b) - 1)) (40 * tn c + 8 + 4 * (nc (tn c) - 1)) k) 1 ((40 * (tn c) + 8 + 4 * (nc (tn c) - 1)) + k))), (7, .int (nI k)), (6, .int c), (5, .int (svM σ nc ld (tn a) (tn b) c)), (4, .int 0), (0, .ref (ad 0)), (1, .int a), (2, .int b), (3, .int c)]) hx hb dX8_ring_158 hl (by decide) rfl (fun ls hl => ?_)
                                    refine lv_aload_n hx hb dX8_ring_160 rfl (lv_at hl 5 rfl) ?_
                                    refine mg_ref hx hb hts in_X8 hown hE hP 0 (yl_n hA (by decide)) rfl rfl 1 rfl (by decide) (hts _ q765) (fun _ h9 => h9) dX8_ring_161 ?_
                                    refine lv_aload_n hx hb dX8_ring_164 rfl (lv_at hl 5 rfl) ?_
                                    refine lv_iload hx hb dX8_ring_165 (lv_at hl 2 rfl) ?_
                                    refine vp_callSi (W.runV (As := [.int c]) (rest := [.ref (ad 1)]) ⟨hx, hb, hml, hown, hts⟩ (mt_X8_outer l D dA st hst ad N hA (rm3 σ (40 * tn a + 8 + 4 * (nc (tn a) - 1)) (40 * tn b + 8 + 4 * (nc (tn b) - 1)) (40 * tn c + 8 + 4 * (nc (tn c) - 1)) k) c (tn c) (ik_eq c_42) (by omega) (nc (tn c)) ((rm3_3 (by omega) (by omega) (by omega)).trans c_42_m) (by omega) (by omega)) (cwV 1 hts (lw_V q994 q996 qs35 q55 q997) rfl rfl rfl (by decide +kernel) ⟨Nat.le_of_ble_eq_true rfl, Nat.le_of_ble_eq_true rfl⟩) ⟨mPre.blind, m_recv hE hP 0 (yl_n hA (by decide)) rfl rfl, mPre.at hE hP⟩ rfl rfl hl.1 rfl (lv_room (Nat.le_of_ble_eq_true rfl)) dX8_ring_167 ⟨Nat.le_of_ble_eq_true rfl, Nat.le_of_ble_eq_true rfl⟩) (fun r_53 hr_53 => ?_)
                                    subst hr_53
                                    refine lv_iload hx hb dX8_ring_170 (lv_at hl 1 rfl) ?_
                                    refine lv_iadd hx hb dX8_ring_172 ?_
                                    refine lv_iload_n hx hb dX8_ring_173 rfl (lv_at hl 8 rfl) ?_
                                    refine lv_if_ge (tgt := 193) hx hb dX8_ring_174 (by decide) (fun c_54 => ?_) (fun c_54 => ?_)
                                    · have nc_54 : 0 ≤ tn c := mi_le rfl (ik_eq c_42) (by omega) (by omega) c_54
                                      refine lv_aload_n hx hb dX8_ring_193 rfl (lv_at hl 5 rfl) ?_
                                      refine mg_ref hx hb hts in_X8 hown hE hP 0 (yl_n hA (by decide)) rfl rfl 1 rfl (by decide) (hts _ q765) (fun _ h9 => h9) dX8_ring_194 ?_
                                      refine lv_aload_n hx hb dX8_ring_197 rfl (lv_at hl 5 rfl) ?_
                                      refine lv_iload_n hx hb dX8_ring_198 rfl (lv_at hl 7 rfl) ?_
                                      refine vp_callSi (W.runV (As := [.int b]) (rest := [.ref (ad 1), .int ((nI (40 * (tn c) + 8 + 4 * (nc (tn c) - 1))) + (nI k)), .ref (ad 1)]) ⟨hx, hb, hml, hown, hts⟩ (mt_X8_outer l D dA st hst ad N hA (rm3 σ (40 * tn a + 8 + 4 * (nc (tn a) - 1)) (40 * tn b + 8 + 4 * (nc (tn b) - 1)) (40 * tn c + 8 + 4 * (nc (tn c) - 1)) k) b (tn b) (ik_eq c_25) (by omega) (nc (tn b)) ((rm3_3 (by omega) (by omega) (by omega)).trans c_25_m) (by omega) (by omega)) (cwV 1 hts (lw_V q994 q996 qs35 q55 q997) rfl rfl rfl (by decide +kernel) ⟨Nat.le_of_ble_eq_true rfl, Nat.le_of_ble_eq_true rfl⟩) ⟨mPre.blind, m_recv hE hP 0 (yl_n hA (by decide)) rfl rfl, mPre.at hE hP⟩ rfl rfl hl.1 rfl (lv_room (Nat.le_of_ble_eq_true rfl)) dX8_ring_199 ⟨Nat.le_of_ble_eq_true rfl, Nat.le_of_ble_eq_true rfl⟩) (fun r_55 hr_55 => ?_)
                                      subst hr_55
                                      refine lv_iload hx hb dX8_ring_202 (lv_at hl 1 rfl) ?_
                                      refine lv_iadd hx hb dX8_ring_204 ?_
                                      refine mg_ild hx hb hE hP 1 (yl_n hA (by decide)) rfl ((40 * (tn b) + 8 + 4 * (nc (tn b) - 1)) + k) (by omega) (mi_add rfl rfl) (by decide) dX8_ring_205 ?_
                                      refine mg_ist (v := (rm3 σ (40 * tn a + 8 + 4 * (nc (tn a) - 1)) (40 * tn b + 8 + 4 * (nc (tn b) - 1)) (40 * tn c + 8 + 4 * (nc (tn c) - 1)) k) 1 ((40 * (tn b) + 8 + 4 * (nc (tn b) - 1)) + k)) hx hb hE hD hP hS 1 (yl_n hA (by decide)) rfl ((40 * (tn c) + 8 + 4 * (nc (tn c) - 1)) + k) (by omega) (mi_add rfl rfl) (by decide) dX8_ring_206 (fun H locs hP hS => ?_)
                                      refine lv_iload_n hx hb dX8_ring_207 rfl (lv_at hl 8 rfl) ?_
                                      refine lv_if_lt (tgt := 237) hx hb dX8_ring_208 (by decide) (fun c_56 => ?_) (fun c_56 => ?_)
                                      · have nc_56 : tn c < 0 := mi_lt (ik_eq c_42) rfl (by omega) (by omega) c_56
                                        exact absurd c_56 hcp
                                      · have nc_56 : 0 ≤ tn c := mi_nlt (ik_eq c_42) rfl (by omega) (by omega) c_56
                                        refine lv_aload_n hx hb dX8_ring_211 rfl (lv_at hl 5 rfl) ?_
                                        refine mg_ref hx hb hts in_X8 hown hE hP 0 (yl_n hA (by decide)) rfl rfl 1 rfl (by decide) (hts _ q765) (fun _ h9 => h9) dX8_ring_212 ?_
                                        refine lv_aload_n hx hb dX8_ring_215 rfl (lv_at hl 5 rfl) ?_
                                        refine lv_iload_n hx hb dX8_ring_216 rfl (lv_at hl 7 rfl) ?_
                                        refine vp_callSi (W.runV (As := [.int b]) (rest := [.ref (ad 1)]) ⟨hx, hb, hml, hown, hts⟩ (mt_X8_outer l D dA st hst ad N hA (mup (rm3 σ (40 * tn a + 8 + 4 * (nc (tn a) - 1)) (40 * tn b + 8 + 4 * (nc (tn b) - 1)) (40 * tn c + 8 + 4 * (nc (tn c) - 1)) k) 1 ((40 * (tn c) + 8 + 4 * (nc (tn c) - 1)) + k) ((rm3 σ (40 * tn a + 8 + 4 * (nc (tn a) - 1)) (40 * tn b + 8 + 4 * (nc (tn b) - 1)) (40 * tn c + 8 + 4 * (nc (tn c) - 1)) k) 1 ((40 * (tn b) + 8 + 4 * (nc (tn b) - 1)) + k))) b (tn b) (ik_eq c_25) (by omega) (nc (tn b)) ((mup_ne2 (by omega)).trans ((rm3_3 (by omega) (by omega) (by omega)).trans c_25_m)) (by omega) (by omega)) (cwV 1 hts (lw_V q994 q996 qs35 q55 q997) rfl rfl rfl (by decide +kernel) ⟨Nat.le_of_ble_eq_true rfl, Nat.le_of_ble_eq_true rfl⟩) ⟨mPre.blind, m_recv hE hP 0 (yl_n hA (by decide)) rfl rfl, mPre.at hE hP⟩ rfl rfl hl.1 rfl (lv_room (Nat.le_of_ble_eq_true rfl)) dX8_ring_217 ⟨Nat.le_of_ble_eq_true rfl, Nat.le_of_ble_eq_true rfl⟩) (fun r_57 hr_57 => ?_)
                                        subst hr_57
                                        refine lv_iload hx hb dX8_ring_220 (lv_at hl 1 rfl) ?_
                                        refine lv_iadd hx hb dX8_ring_222 ?_
                                        refine lv_aload_n hx hb dX8_ring_223 rfl (lv_at hl 5 rfl) ?_
                                        refine mg_ref hx hb hts in_X8 hown hE hP 0 (yl_n hA (by decide)) rfl rfl 1 rfl (by decide) (hts _ q765) (fun _ h9 => h9) dX8_ring_224 ?_
                                        refine lv_aload_n hx hb dX8_ring_227 rfl (lv_at hl 5 rfl) ?_
                                        refine lv_iload_n hx hb dX8_ring_228 rfl (lv_at hl 6 rfl) ?_
                                        refine vp_callSi (W.runV (As := [.int a]) (rest := [.ref (ad 1), .int ((nI (40 * (tn b) + 8 + 4 * (nc (tn b) - 1))) + (nI k)), .ref (ad 1)]) ⟨hx, hb, hml, hown, hts⟩ (mt_X8_outer l D dA st hst ad N hA (mup (rm3 σ (40 * tn a + 8 + 4 * (nc (tn a) - 1)) (40 * tn b + 8 + 4 * (nc (tn b) - 1)) (40 * tn c + 8 + 4 * (nc (tn c) - 1)) k) 1 ((40 * (tn c) + 8 + 4 * (nc (tn c) - 1)) + k) ((rm3 σ (40 * tn a + 8 + 4 * (nc (tn a) - 1)) (40 * tn b + 8 + 4 * (nc (tn b) - 1)) (40 * tn c + 8 + 4 * (nc (tn c) - 1)) k) 1 ((40 * (tn b) + 8 + 4 * (nc (tn b) - 1)) + k))) a (tn a) (ik_eq c_23) (by omega) (nc (tn a)) ((mup_ne2 (by omega)).trans ((rm3_3 (by omega) (by omega) (by omega)).trans c_23_m)) (by omega) (by omega)) (cwV 1 hts (lw_V q994 q996 qs35 q55 q997) rfl rfl rfl (by decide +kernel) ⟨Nat.le_of_ble_eq_true rfl, Nat.le_of_ble_eq_true rfl⟩) ⟨mPre.blind, m_recv hE hP 0 (yl_n hA (by decide)) rfl rfl, mPre.at hE hP⟩ rfl rfl hl.1 rfl (lv_room (Nat.le_of_ble_eq_true rfl)) dX8_ring_229 ⟨Nat.le_of_ble_eq_true rfl, Nat.le_of_ble_eq_true rfl⟩) (fun r_58 hr_58 => ?_)
                                        subst hr_58
                                        refine lv_iload hx hb dX8_ring_232 (lv_at hl 1 rfl) ?_
                                        refine lv_iadd hx hb dX8_ring_234 ?_
                                        refine mg_ild hx hb hE hP 1 (yl_n hA (by decide)) rfl ((40 * (tn a) + 8 + 4 * (nc (tn a) - 1)) + k) (by omega) (mi_add rfl rfl) (by decide) dX8_ring_235 ?_
                                        refine mg_ist (v := (mup (rm3 σ (40 * tn a + 8 + 4 * (nc (tn a) - 1)) (40 * tn b + 8 + 4 * (nc (tn b) - 1)) (40 * tn c + 8 + 4 * (nc (tn c) - 1)) k) 1 ((40 * (tn c) + 8 + 4 * (nc (tn c) - 1)) + k) ((rm3 σ (40 * tn a + 8 + 4 * (nc (tn a) - 1)) (40 * tn b + 8 + 4 * (nc (tn b) - 1)) (40 * tn c + 8 + 4 * (nc (tn c) - 1)) k) 1 ((40 * (tn b) + 8 + 4 * (nc (tn b) - 1)) + k))) 1 ((40 * (tn a) + 8 + 4 * (nc (tn a) - 1)) + k)) hx hb hE hD hP hS 1 (yl_n hA (by decide)) rfl ((40 * (tn b) + 8 + 4 * (nc (tn b) - 1)) + k) (by omega) (mi_add rfl rfl) (by decide) dX8_ring_236 (fun H locs hP hS => ?_)
                                        refine lv_aload_n hx hb dX8_ring_237 rfl (lv_at hl 5 rfl) ?_
                                        refine mg_ref hx hb hts in_X8 hown hE hP 0 (yl_n hA (by decide)) rfl rfl 1 rfl (by decide) (hts _ q765) (fun _ h9 => h9) dX8_ring_238 ?_
                                        refine lv_aload_n hx hb dX8_ring_241 rfl (lv_at hl 5 rfl) ?_
                                        refine lv_iload_n hx hb dX8_ring_242 rfl (lv_at hl 6 rfl) ?_
                                        refine vp_callSi (W.runV (As := [.int a]) (rest := [.ref (ad 1)]) ⟨hx, hb, hml, hown, hts⟩ (mt_X8_outer l D dA st hst ad N hA (mup (mup (rm3 σ (40 * tn a + 8 + 4 * (nc (tn a) - 1)) (40 * tn b + 8 + 4 * (nc (tn b) - 1)) (40 * tn c + 8 + 4 * (nc (tn c) - 1)) k) 1 ((40 * (tn c) + 8 + 4 * (nc (tn c) - 1)) + k) ((rm3 σ (40 * tn a + 8 + 4 * (nc (tn a) - 1)) (40 * tn b + 8 + 4 * (nc (tn b) - 1)) (40 * tn c + 8 + 4 * (nc (tn c) - 1)) k) 1 ((40 * (tn b) + 8 + 4 * (nc (tn b) - 1)) + k))) 1 ((40 * (tn b) + 8 + 4 * (nc (tn b) - 1)) + k) ((mup (rm3 σ (40 * tn a + 8 + 4 * (nc (tn a) - 1)) (40 * tn b + 8 + 4 * (nc (tn b) - 1)) (40 * tn c + 8 + 4 * (nc (tn c) - 1)) k) 1 ((40 * (tn c) + 8 + 4 * (nc (tn c) - 1)) + k) ((rm3 σ (40 * tn a + 8 + 4 * (nc (tn a) - 1)) (40 * tn b + 8 + 4 * (nc (tn b) - 1)) (40 * tn c + 8 + 4 * (nc (tn c) - 1)) k) 1 ((40 * (tn b) + 8 + 4 * (nc (tn b) - 1)) + k))) 1 ((40 * (tn a) + 8 + 4 * (nc (tn a) - 1)) + k))) a (tn a) (ik_eq c_23) (by omega) (nc (tn a)) (((mup_ne2 (by omega)).trans (mup_ne2 (by omega))).trans ((rm3_3 (by omega) (by omega) (by omega)).trans c_23_m)) (by omega) (by omega)) (cwV 1 hts (lw_V q994 q996 qs35 q55 q997) rfl rfl rfl (by decide +kernel) ⟨Nat.le_of_ble_eq_true rfl, Nat.le_of_ble_eq_true rfl⟩) ⟨mPre.blind, m_recv hE hP 0 (yl_n hA (by decide)) rfl rfl, mPre.at hE hP⟩ rfl rfl hl.1 rfl (lv_room (Nat.le_of_ble_eq_true rfl)) dX8_ring_243 ⟨Nat.le_of_ble_eq_true rfl, Nat.le_of_ble_eq_true rfl⟩) (fun r_59 hr_59 => ?_)
                                        subst hr_59
                                        refine lv_iload hx hb dX8_ring_246 (lv_at hl 1 rfl) ?_
                                        refine lv_iadd hx hb dX8_ring_248 ?_
                                        refine lv_iload hx hb dX8_ring_249 (lv_at hl 0 rfl) ?_
                                        refine mg_ist (v := (rm3 σ (40 * tn a + 8 + 4 * (nc (tn a) - 1)) (40 * tn b + 8 + 4 * (nc (tn b) - 1)) (40 * tn c + 8 + 4 * (nc (tn c) - 1)) k) 1 ((40 * (tn c) + 8 + 4 * (nc (tn c) - 1)) + k)) hx hb hE hD hP hS 1 (yl_n hA (by decide)) rfl ((40 * (tn a) + 8 + 4 * (nc (tn a) - 1)) + k) (by omega) (mi_add rfl rfl) (by decide) dX8_ring_251 (fun H locs hP hS => ?_)
                                        refine lv_iinc (v := (nI (k + 1))) (lv' := [(7, .int (nI (k + 1))), (8, .int ((rm3 σ (40 * tn a + 8 + 4 * (nc (tn a) - 1)) (40 * tn b + 8 + 4 * (nc (tn b) - 1)) (40 * tn c + 8 + 4 * (nc (tn c) - 1)) k) 1 ((40 * (tn c) + 8 + 4 * (nc (tn c) - 1)) + k))), (6, .int c), (5, .int (svM σ nc ld (tn a) (tn b) c)), (4, .int 0), (0, .ref (ad 0)), (1, .int a), (2, .int b), (3, .int c)]) hx hb dX8_ring_252 hl (k := 1) rfl (mi_add rfl rfl) (by decide) rfl (fun ls hl => ?_)
                                        refine lv_goto (tgt := 138) hx hb dX8_ring_255 (by decide) ?_
                                        exact ih138  (k + 1) (by omega) (by omega) _ _ (m_eq (rfl) hP) hS ls (lv_sub hl [0, 2, 3, 4, 5, 6, 7, 8] rfl)
                                    · have nc_54 : tn c < 0 := mi_nle rfl (ik_eq c_42) (by omega) (by omega) c_54
                                      exact absurd (Int32.not_le.mp c_54) hcp
                              exact lp138 (4 - 0 + 1) 0 (by omega) (by omega) _ _ (m_eq (rfl) hP) hS ls (lv_sub hl [0, 1, 2, 3, 4, 5, 6, 7] rfl)
                            · have nc_50 : tn c < 0 := mi_nle rfl (ik_eq c_42) (by omega) (by omega) c_50
                              exact absurd (Int32.not_le.mp c_50) hcp
                          · skip
                            refine lv_bipush (v := (-4)) hx hb dX8_ring_121 (by decide) ?_
                            exact W.iret (v := (-4)) hx hb hr (fun t ht hW => ⟨⟨_, _, rfl, by dsimp only; rw [if_neg c_1, if_neg c_11, if_neg c_21, if_pos c_23, if_pos c_25, if_neg c_26, if_pos c_42, if_neg nc_44, if_neg nc_45, if_neg nc_47, if_pos c_49]; exact ⟨rfl, rfl⟩, mB.of ht hP⟩, hS.F ht⟩) hS.2.2 dX8_ring_123
                        · have nc_47 : nc (tn c) = 0 := mi_eq c_42_m rfl (by omega) (by omega) c_47
                          refine lv_bipush (v := (-2)) hx hb dX8_ring_104 (by decide) ?_
                          exact W.iret (v := (-2)) hx hb hr (fun t ht hW => ⟨⟨_, _, rfl, by dsimp only; rw [if_neg c_1, if_neg c_11, if_neg c_21, if_pos c_23, if_pos c_25, if_neg c_26, if_pos c_42, if_neg nc_44, if_neg nc_45, if_pos nc_47]; exact ⟨rfl, rfl⟩, mB.of ht hP⟩, hS.F ht⟩) hS.2.2 dX8_ring_106
                · skip
                  exact absurd c_43 (by decide)
      · skip
        refine lv_iconst (v := 1) hx hb dX8_ring_15 (by decide) ?_
        refine lv_goto (tgt := 20) hx hb dX8_ring_16 (by decide) ?_
        refine lv_istore (lv' := [(4, .int 1), (0, .ref (ad 0)), (1, .int a), (2, .int b), (3, .int c)]) hx hb dX8_ring_20 hl (by decide) rfl (fun ls hl => ?_)
        refine lv_aload_n hx hb dX8_ring_22 rfl (lv_at hl 1 rfl) ?_
        refine lv_iload_n hx hb dX8_ring_23 rfl (lv_at hl 2 rfl) ?_
        refine vp_callSi (W.runV (As := [.int a]) (rest := []) ⟨hx, hb, hml, hown, hts⟩ (mt_X8_isOne l D dA st hst ad N hA σ a np hF.n hF.n5) (cwV 1 hts (lw_V q863 q865 qs20 q55 q866) rfl rfl rfl (by decide +kernel) ⟨Nat.le_of_ble_eq_true rfl, Nat.le_of_ble_eq_true rfl⟩) ⟨mPre.blind, m_recv hE hP 0 (yl_n hA (by decide)) rfl rfl, mPre.at hE hP⟩ rfl rfl hl.1 rfl (lv_room (Nat.le_of_ble_eq_true rfl)) dX8_ring_24 ⟨Nat.le_of_ble_eq_true rfl, Nat.le_of_ble_eq_true rfl⟩) (fun r_60 hr_60 => ?_)
        subst hr_60
        refine lv_if_eq (tgt := 56) hx hb dX8_ring_27 (by decide) (fun c_61 => ?_) (fun c_61 => ?_)
        · have c_61 : ¬ (ik a np) := bi_f c_61
          refine lv_iconst (v := (-1)) hx hb dX8_ring_56 (by decide) ?_
          exact W.iret (v := (-1)) hx hb hr (fun t ht hW => ⟨⟨_, _, rfl, by dsimp only; rw [if_neg c_1, if_neg c_11, if_pos c_21]; exact ⟨rfl, rfl⟩, mB.of ht hP⟩, hS.F ht⟩) hS.2.2 dX8_ring_57
        · have c_61 : ik a np := bi_t c_61
          have c_61_lt := ik_lt c_61
          have c_61_m := hF.m c_61_lt
          have c_61_8 := hF.m8 c_61_lt
          refine lv_aload_n hx hb dX8_ring_30 rfl (lv_at hl 1 rfl) ?_
          refine lv_iload_n hx hb dX8_ring_31 rfl (lv_at hl 3 rfl) ?_
          refine vp_callSi (W.runV (As := [.int b]) (rest := []) ⟨hx, hb, hml, hown, hts⟩ (mt_X8_isOne l D dA st hst ad N hA σ b np hF.n hF.n5) (cwV 1 hts (lw_V q863 q865 qs20 q55 q866) rfl rfl rfl (by decide +kernel) ⟨Nat.le_of_ble_eq_true rfl, Nat.le_of_ble_eq_true rfl⟩) ⟨mPre.blind, m_recv hE hP 0 (yl_n hA (by decide)) rfl rfl, mPre.at hE hP⟩ rfl rfl hl.1 rfl (lv_room (Nat.le_of_ble_eq_true rfl)) dX8_ring_32 ⟨Nat.le_of_ble_eq_true rfl, Nat.le_of_ble_eq_true rfl⟩) (fun r_62 hr_62 => ?_)
          subst hr_62
          refine lv_if_eq (tgt := 56) hx hb dX8_ring_35 (by decide) (fun c_63 => ?_) (fun c_63 => ?_)
          · have c_63 : ¬ (ik b np) := bi_f c_63
            refine lv_iconst (v := (-1)) hx hb dX8_ring_56 (by decide) ?_
            exact W.iret (v := (-1)) hx hb hr (fun t ht hW => ⟨⟨_, _, rfl, by dsimp only; rw [if_neg c_1, if_neg c_11, if_pos c_21]; exact ⟨rfl, rfl⟩, mB.of ht hP⟩, hS.F ht⟩) hS.2.2 dX8_ring_57
          · have c_63 : ik b np := bi_t c_63
            have c_63_lt := ik_lt c_63
            have c_63_m := hF.m c_63_lt
            have c_63_8 := hF.m8 c_63_lt
            refine lv_iload_n hx hb dX8_ring_38 rfl (lv_at hl 4 rfl) ?_
            refine lv_iconst (v := (-1)) hx hb dX8_ring_39 (by decide) ?_
            refine lv_icmp_eq (tgt := 51) hx hb dX8_ring_40 (by decide) (fun c_64 => ?_) (fun c_64 => ?_)
            · skip
              have hcn : c < 0 := by rw [c_64]; decide
              refine lv_iload hx hb dX8_ring_51 (lv_at hl 0 rfl) ?_
              refine lv_if_eq (tgt := 58) hx hb dX8_ring_53 (by decide) (fun c_65 => ?_) (fun c_65 => ?_)
              · skip
                exact absurd c_65 (by decide)
              · skip
                refine lv_iconst (v := (-1)) hx hb dX8_ring_56 (by decide) ?_
                exact W.iret (v := (-1)) hx hb hr (fun t ht hW => ⟨⟨_, _, rfl, by dsimp only; rw [if_neg c_1, if_neg c_11, if_pos c_21]; exact ⟨rfl, rfl⟩, mB.of ht hP⟩, hS.F ht⟩) hS.2.2 dX8_ring_57
            · skip
              refine lv_aload_n hx hb dX8_ring_43 rfl (lv_at hl 1 rfl) ?_
              refine lv_iload_n hx hb dX8_ring_44 rfl (lv_at hl 4 rfl) ?_
              refine vp_callSi (W.runV (As := [.int c]) (rest := []) ⟨hx, hb, hml, hown, hts⟩ (mt_X8_isOne l D dA st hst ad N hA σ c np hF.n hF.n5) (cwV 1 hts (lw_V q863 q865 qs20 q55 q866) rfl rfl rfl (by decide +kernel) ⟨Nat.le_of_ble_eq_true rfl, Nat.le_of_ble_eq_true rfl⟩) ⟨mPre.blind, m_recv hE hP 0 (yl_n hA (by decide)) rfl rfl, mPre.at hE hP⟩ rfl rfl hl.1 rfl (lv_room (Nat.le_of_ble_eq_true rfl)) dX8_ring_45 ⟨Nat.le_of_ble_eq_true rfl, Nat.le_of_ble_eq_true rfl⟩) (fun r_66 hr_66 => ?_)
              subst hr_66
              refine lv_if_eq (tgt := 56) hx hb dX8_ring_48 (by decide) (fun c_67 => ?_) (fun c_67 => ?_)
              · have c_67 : ¬ (ik c np) := bi_f c_67
                refine lv_iconst (v := (-1)) hx hb dX8_ring_56 (by decide) ?_
                exact W.iret (v := (-1)) hx hb hr (fun t ht hW => ⟨⟨_, _, rfl, by dsimp only; rw [if_neg c_1, if_neg c_11, if_pos c_21]; exact ⟨rfl, rfl⟩, mB.of ht hP⟩, hS.F ht⟩) hS.2.2 dX8_ring_57
              · have c_67 : ik c np := bi_t c_67
                have c_67_lt := ik_lt c_67
                have c_67_m := hF.m c_67_lt
                have c_67_8 := hF.m8 c_67_lt
                have hcp : ¬ c < 0 := by rw [i_lt]; exact Int.not_lt.mpr c_67.1
                refine lv_iload hx hb dX8_ring_51 (lv_at hl 0 rfl) ?_
                refine lv_if_eq (tgt := 58) hx hb dX8_ring_53 (by decide) (fun c_68 => ?_) (fun c_68 => ?_)
                · skip
                  exact absurd c_68 (by decide)
                · skip
                  refine lv_iconst (v := (-1)) hx hb dX8_ring_56 (by decide) ?_
                  exact W.iret (v := (-1)) hx hb hr (fun t ht hW => ⟨⟨_, _, rfl, by dsimp only; rw [if_neg c_1, if_neg c_11, if_pos c_21]; exact ⟨rfl, rfl⟩, mB.of ht hP⟩, hS.F ht⟩) hS.2.2 dX8_ring_57
set_option maxHeartbeats 4000000 in
set_option maxRecDepth 100000 in
theorem mt_X8_type (l : Launch) (D : va_G) (dA : Nat → ClassId) (st : Nat) (hst : st = 1 ∨ st = 2) (ad : Nat → Nat) (N : Nat) (hA : yA ad N) (σ : mMem) (w : Int64) (a : Int32) (tp : Nat) (htp : σ 0 13 = nI tp) (htp8 : tp ≤ 80) : Met l yX8_type (ws_ yX8_type cX8_type 5 (some .int)) ({ frames := 1, cells := 0, slots := 0, locals := 25 }) (va_Pc [.ref (ad 0), .long w, .int a] (mPre D dA (shM st) ad N σ)) (va_Qi (fun (r : Int32) (u : mMem) => (if iv a 1 8 then (if ∀ i, i < tn a → okm w i then (if tp + tn a ≤ 80 then (r = nI (tp + tn a) ∧ u = tpM σ w tp (tn a) (tn a)) else (r = -3 ∧ u = σ)) else (r = -1 ∧ u = σ)) else (r = -1 ∧ u = σ))) (mB D dA (shM st) ad N) (mAd ad N)) 0 0 (mAd ad N) := by
  refine Met.ofW (cc := cX8_type) (maxL := 5) (ret := (some .int)) (by decide) rfl ?_
  intro pp ee ss mm args below meth cd s₁ B hml hv
  obtain ⟨rfl, hP, hE⟩ := hv
  have hx := B.exec
  have hb := B.bytes
  have hr := B.returns
  have hts := atoms_spec (ws := ws_ yX8_type cX8_type 5 (some .int)) B.pre
  have hts : ∀ w ∈ lw_all, w.before _ ss = true := fun w h => hts w (List.mem_cons_of_mem _ h)
  have hown : ss.vm.findClass RX8 = some mm.cls := findClass_of_methodNamed B.named
  have hlocks := B.notSynchronized
  have hD := hA.2.self
  have hS : va_S (mAd ad N) ss.heap ss.heap [] := va_S.rf
  have hNN := hA.1
  have hl := lv_entry ([.ref (ad 0), .long w, .int a]) (n := 5) (Nat.le_of_ble_eq_true rfl)
  rw [lg_entry_eq]
  generalize (lg_sl ([.ref (ad 0), .long w, .int a]) ++ List.replicate (5 - (lg_sl ([.ref (ad 0), .long w, .int a])).length) Slot.unset).toArray = ls at hl ⊢
  have hl : lv_has ls 5 [(0, .ref (ad 0)), (1, .long w), (3, .int a)] := hl
  refine lv_iload_n hx hb dX8_type_0 rfl (lv_at hl 2 rfl) ?_
  refine lv_i2l (v := a.toInt64) hx hb dX8_type_1 rfl ?_
  refine lv_lconst (v := 1) hx hb dX8_type_2 (by decide) ?_
  refine lv_ldc2 hx hb hown (hts _ q906) dX8_type_3 ?_
  refine vp_callSi (W.runS (As := [.long a.toInt64, .long 1, .long 8]) (rest := []) ⟨hx, hb, hml, hown, hts⟩ (mt_X8_in l a.toInt64 1 8) (va_cwS 3 hts (lw_S q854 q855 q55 q856) rfl rfl rfl (by decide +kernel) ⟨Nat.le_of_ble_eq_true rfl, Nat.le_of_ble_eq_true rfl⟩) ⟨fun _ _ _ _ h => h, fun _ _ _ => ⟨rfl, trivial⟩⟩ rfl rfl hl.1 rfl (lv_room (Nat.le_of_ble_eq_true rfl)) dX8_type_6 ⟨Nat.le_of_ble_eq_true rfl, Nat.le_of_ble_eq_true rfl⟩) (fun r_1 hr_1 => ?_)
  subst hr_1
  refine lv_rwi (bi_c (liv_of rfl rfl)) ?_
  refine lv_if_ne (tgt := 14) hx hb dX8_type_9 (by decide) (fun c_2 => ?_) (fun c_2 => ?_)
  · have c_2 : iv a 1 8 := bi_t c_2
    have c_2_tn := iv_tn c_2 (by decide)
    refine lv_iconst (v := 0) hx hb dX8_type_14 (by decide) ?_
    refine lv_istore (lv' := [(4, .int 0), (0, .ref (ad 0)), (1, .long w), (3, .int a)]) hx hb dX8_type_15 hl (by decide) rfl (fun ls hl => ?_)
    have lp17 : ∀ (fu : Nat) (k : Nat) (_ : k ≤ tn a) (_ : ∀ i, i < k → okm w i) (_ : tn a - k < fu) (ls : Array Slot) (_ : lv_has ls 5 [(4, .int (nI k)), (0, .ref (ad 0)), (1, .long w), (3, .int a)]), W pp l ee (headSpec (ws_ yX8_type cX8_type 5 (some .int)) ({ frames := 1, cells := 0, slots := 0, locals := 25 })).room ss mm ([.ref (ad 0), .long w, .int a] : List Value).toArray below meth cd ss.heap [] 0 0 (MQ below (va_Qi (fun (r : Int32) (u : mMem) => (if iv a 1 8 then (if ∀ i, i < tn a → okm w i then (if tp + tn a ≤ 80 then (r = nI (tp + tn a) ∧ u = tpM σ w tp (tn a) (tn a)) else (r = -3 ∧ u = σ)) else (r = -1 ∧ u = σ)) else (r = -1 ∧ u = σ))) (mB D dA (shM st) ad N) (mAd ad N)) ([.ref (ad 0), .long w, .int a] : List Value).toArray ss 0 0 (mAd ad N)) (F0 mm 17 ls []) := by
      intro fu
      induction fu with
      | zero => intro k hk hall hfu; exact absurd hfu (Nat.not_lt_zero _)
      | succ fu ih17 =>
        intro k hk hall hfu ls hl
        refine lv_iload hx hb dX8_type_17 (lv_at hl 0 rfl) ?_
        refine lv_iload_n hx hb dX8_type_19 rfl (lv_at hl 3 rfl) ?_
        refine lv_icmp_ge (tgt := 54) hx hb dX8_type_20 (by decide) (fun c_3 => ?_) (fun c_3 => ?_)
        · have nc_3 : tn a ≤ k := mi_le (iv_eq c_2 (by decide)) rfl (by omega) (by omega) c_3
          refine lv_aload_n hx hb dX8_type_54 rfl (lv_at hl 1 rfl) ?_
          refine mg_get hx hb hts in_X8 hown hE hP 0 (yl_n hA (by decide)) rfl rfl 13 rfl (by decide) (hts _ q777) (fun _ h9 => h9) dX8_type_55 ?_
          refine lv_iload_n hx hb dX8_type_58 rfl (lv_at hl 3 rfl) ?_
          refine lv_iadd hx hb dX8_type_59 ?_
          refine lv_bipush (v := 80) hx hb dX8_type_60 (by decide) ?_
          refine lv_icmp_le (tgt := 68) hx hb dX8_type_62 (by decide) (fun c_4 => ?_) (fun c_4 => ?_)
          · have nc_4 : tp + tn a ≤ 80 := mi_le (mi_add htp (iv_eq c_2 (by decide))) rfl (by omega) (by omega) c_4
            refine lv_iload_n hx hb dX8_type_68 rfl (lv_at hl 3 rfl) ?_
            refine lv_iconst (v := 1) hx hb dX8_type_69 (by decide) ?_
            refine lv_isub hx hb dX8_type_70 ?_
            refine lv_rwi (mi_sub (a := tn a) (b := 1) (iv_eq c_2 (by decide)) rfl (by omega)) ?_
            refine lv_istore (lv' := [(4, .int (nI ((tn a) - 1))), (0, .ref (ad 0)), (1, .long w), (3, .int a)]) hx hb dX8_type_71 hl (by decide) rfl (fun ls hl => ?_)
            have lp73 : ∀ (fu : Nat) (c : Nat) (_ : c ≤ tn a) (_ : tn a - c < fu) (H : Heap) (locs : List Loc) (_ : va_P D xCl (mW dA (shM st) ad N (tpM σ w tp (tn a) c)) H) (_ : va_S (mAd ad N) ss.heap H locs) (ls : Array Slot) (_ : lv_has ls 5 [(4, .int (nI (tn a - c) - 1)), (0, .ref (ad 0)), (1, .long w), (3, .int a)]), W pp l ee (headSpec (ws_ yX8_type cX8_type 5 (some .int)) ({ frames := 1, cells := 0, slots := 0, locals := 25 })).room ss mm ([.ref (ad 0), .long w, .int a] : List Value).toArray below meth cd H locs 0 0 (MQ below (va_Qi (fun (r : Int32) (u : mMem) => (if iv a 1 8 then (if ∀ i, i < tn a → okm w i then (if tp + tn a ≤ 80 then (r = nI (tp + tn a) ∧ u = tpM σ w tp (tn a) (tn a)) else (r = -3 ∧ u = σ)) else (r = -1 ∧ u = σ)) else (r = -1 ∧ u = σ))) (mB D dA (shM st) ad N) (mAd ad N)) ([.ref (ad 0), .long w, .int a] : List Value).toArray ss 0 0 (mAd ad N)) (F0 mm 73 ls []) := by
              intro fu
              induction fu with
              | zero => intro c hc hfu; exact absurd hfu (Nat.not_lt_zero _)
              | succ fu ih73 =>
                intro c hc hfu H locs hP hS ls hl
                refine lv_iload hx hb dX8_type_73 (lv_at hl 0 rfl) ?_
                refine lv_if_lt (tgt := 115) hx hb dX8_type_75 (by decide) (fun c_5 => ?_) (fun c_5 => ?_)
                · skip
                  have hce : tn a - c = 0 := m1_neg (by omega) c_5
                  refine lv_aload_n hx hb dX8_type_115 rfl (lv_at hl 1 rfl) ?_
                  refine mg_get hx hb hts in_X8 hown hE hP 0 (yl_n hA (by decide)) rfl rfl 13 rfl (by decide) (hts _ q777) (fun _ h9 => h9) dX8_type_116 ?_
                  exact W.iret (v := (tpM σ w tp (tn a) c) 0 13) hx hb hr (fun t ht hW => ⟨⟨_, _, rfl, by dsimp only; rw [if_pos c_2, if_pos (fun i hi => hall i (by omega)), if_pos (by omega)]; exact ⟨by rw [tpM_7 htp c, show c = tn a by omega], by rw [show c = tn a by omega]⟩, mB.of ht hP⟩, hS.F ht⟩) hS.2.2 dX8_type_119
                · skip
                  have hc0 : 0 < tn a - c := m1_pos c_5
                  refine lv_aload_n hx hb dX8_type_78 rfl (lv_at hl 1 rfl) ?_
                  refine mg_ref hx hb hts in_X8 hown hE hP 0 (yl_n hA (by decide)) rfl rfl 12 rfl (by decide) (hts _ q776) (fun _ h9 => h9) dX8_type_79 ?_
                  refine lv_aload_n hx hb dX8_type_82 rfl (lv_at hl 1 rfl) ?_
                  refine mg_get hx hb hts in_X8 hown hE hP 0 (yl_n hA (by decide)) rfl rfl 13 rfl (by decide) (hts _ q777) (fun _ h9 => h9) dX8_type_83 ?_
                  refine lv_lload_n hx hb dX8_type_86 rfl (lv_at hl 2 rfl) ?_
                  refine lv_bipush (v := 8) hx hb dX8_type_87 (by decide) ?_
                  refine lv_iload hx hb dX8_type_89 (lv_at hl 0 rfl) ?_
                  refine lv_imul hx hb dX8_type_91 ?_
                  refine lv_rwi (mi_mul rfl (mi_sub (a := tn a - c) (b := 1) rfl rfl (by omega))) ?_
                  refine lv_lshr (v := (w >>> (((nI (8 * (tn a - c - 1))) : Int32).toInt64 &&& 63))) hx hb dX8_type_92 rfl ?_
                  refine lv_ldc2 hx hb hown (hts _ q907) dX8_type_93 ?_
                  refine lv_land hx hb dX8_type_96 ?_
                  refine lv_l2i (v := ((w >>> (((nI (8 * (tn a - c - 1))) : Int32).toInt64 &&& 63)) &&& 255).toInt32) hx hb dX8_type_97 rfl ?_
                  refine mg_ist (v := ((w >>> (((nI (8 * (tn a - c - 1))) : Int32).toInt64 &&& 63)) &&& 255).toInt32) hx hb hE hD hP hS 8 (yl_n hA (by decide)) rfl (tp + c) (by omega) (tpM_7 htp c) (by decide) dX8_type_98 (fun H locs hP hS => ?_)
                  refine lv_aload_n hx hb dX8_type_99 rfl (lv_at hl 1 rfl) ?_
                  refine lv_dup hx hb dX8_type_100 rfl ?_
                  refine mg_get hx hb hts in_X8 hown hE hP 0 (yl_n hA (by decide)) rfl rfl 13 rfl (by decide) (hts _ q777) (fun _ h9 => h9) dX8_type_101 ?_
                  refine lv_rwi (mup_ne1 (by omega)) ?_
                  refine lv_iconst (v := 1) hx hb dX8_type_104 (by decide) ?_
                  refine lv_iadd hx hb dX8_type_105 ?_
                  refine lv_rwi (mi_add (tpM_7 htp c) rfl) ?_
                  refine mg_put (v := (nI (tp + c + 1))) (ty := .int) hx hb hts in_X8 tyX8 tyX8_ok nmX8 hown hE hD hP hS 0 (yl_n hA (by decide)) rfl rfl 13 rfl (by decide) (hts _ q777) (fun _ h9 => h9) rfl (by decide +kernel) rfl rfl dX8_type_106 (fun H locs hP hS => ?_)
                  refine lv_iinc (v := (nI (tn a - (c + 1)) - 1)) (lv' := [(4, .int (nI (tn a - (c + 1)) - 1)), (0, .ref (ad 0)), (1, .long w), (3, .int a)]) hx hb dX8_type_109 hl (k := 0) rfl (dec2 (by omega)) (by decide) rfl (fun ls hl => ?_)
                  refine lv_goto (tgt := 73) hx hb dX8_type_112 (by decide) ?_
                  exact ih73  (c + 1) (by omega) (by omega) _ _ (m_eq (rfl) hP) hS ls (lv_sub hl [0, 1, 2, 3] rfl)
            exact lp73 (tn a - 0 + 1) 0 (by omega) (by omega) _ _ (m_eq (rfl) hP) hS ls (lv_sub hl [0, 1, 2, 3] (by rw [Nat.sub_zero, show nI (tn a) - 1 = nI (tn a - 1) from mi_sub (b := 1) rfl rfl (by omega)]; rfl))
          · have nc_4 : 80 < tp + tn a := mi_nle (mi_add htp (iv_eq c_2 (by decide))) rfl (by omega) (by omega) c_4
            refine lv_bipush (v := (-3)) hx hb dX8_type_65 (by decide) ?_
            exact W.iret (v := (-3)) hx hb hr (fun t ht hW => ⟨⟨_, _, rfl, by dsimp only; rw [if_pos c_2, if_pos (fun i hi => hall i (by omega)), if_neg (by omega)]; exact ⟨rfl, rfl⟩, mB.of ht hP⟩, hS.F ht⟩) hS.2.2 dX8_type_67
        · have nc_3 : k < tn a := mi_nle (iv_eq c_2 (by decide)) rfl (by omega) (by omega) c_3
          refine lv_lload_n hx hb dX8_type_23 rfl (lv_at hl 2 rfl) ?_
          refine lv_bipush (v := 8) hx hb dX8_type_24 (by decide) ?_
          refine lv_iload hx hb dX8_type_26 (lv_at hl 0 rfl) ?_
          refine lv_imul hx hb dX8_type_28 ?_
          refine lv_rwi (mi_mul rfl rfl) ?_
          refine lv_lshr (v := (w >>> (((nI (8 * k)) : Int32).toInt64 &&& 63))) hx hb dX8_type_29 rfl ?_
          refine lv_ldc2 hx hb hown (hts _ q907) dX8_type_30 ?_
          refine lv_land hx hb dX8_type_33 ?_
          refine lv_ldc2 hx hb hown (hts _ q908) dX8_type_34 ?_
          refine lv_ldc2 hx hb hown (hts _ q909) dX8_type_37 ?_
          refine vp_callSi (W.runS (As := [.long ((w >>> (((nI (8 * k)) : Int32).toInt64 &&& 63)) &&& 255), .long 32, .long 126]) (rest := []) ⟨hx, hb, hml, hown, hts⟩ (mt_X8_in l ((w >>> (((nI (8 * k)) : Int32).toInt64 &&& 63)) &&& 255) 32 126) (va_cwS 3 hts (lw_S q854 q855 q55 q856) rfl rfl rfl (by decide +kernel) ⟨Nat.le_of_ble_eq_true rfl, Nat.le_of_ble_eq_true rfl⟩) ⟨fun _ _ _ _ h => h, fun _ _ _ => ⟨rfl, trivial⟩⟩ rfl rfl hl.1 rfl (lv_room (Nat.le_of_ble_eq_true rfl)) dX8_type_40 ⟨Nat.le_of_ble_eq_true rfl, Nat.le_of_ble_eq_true rfl⟩) (fun r_6 hr_6 => ?_)
          subst hr_6
          skip
          refine lv_if_ne (tgt := 48) hx hb dX8_type_43 (by decide) (fun c_7 => ?_) (fun c_7 => ?_)
          · have c_7 : okm w k := bi_t c_7
            refine lv_iinc (v := (nI (k + 1))) (lv' := [(4, .int (nI (k + 1))), (0, .ref (ad 0)), (1, .long w), (3, .int a)]) hx hb dX8_type_48 hl (k := 0) rfl (mi_add rfl rfl) (by decide) rfl (fun ls hl => ?_)
            refine lv_goto (tgt := 17) hx hb dX8_type_51 (by decide) ?_
            exact ih17  (k + 1) (by omega) (lt_s hall c_7) (by omega) ls (lv_sub hl [0, 1, 2, 3] rfl)
          · have c_7 : ¬ (okm w k) := bi_f c_7
            refine lv_iconst (v := (-1)) hx hb dX8_type_46 (by decide) ?_
            exact W.iret (v := (-1)) hx hb hr (fun t ht hW => ⟨⟨_, _, rfl, by dsimp only; rw [if_pos c_2, if_neg (fun q => c_7 (q k (by omega)))]; exact ⟨rfl, rfl⟩, mB.of ht hP⟩, hS.F ht⟩) hS.2.2 dX8_type_47
    exact lp17 (tn a - 0 + 1) 0 (by omega) (fun i h => absurd h (Nat.not_lt_zero _)) (by omega) ls (lv_sub hl [0, 1, 2, 3] rfl)
  · have c_2 : ¬ (iv a 1 8) := bi_f c_2
    refine lv_iconst (v := (-1)) hx hb dX8_type_12 (by decide) ?_
    exact W.iret (v := (-1)) hx hb hr (fun t ht hW => ⟨⟨_, _, rfl, by dsimp only; rw [if_neg c_2]; exact ⟨rfl, rfl⟩, mB.of ht hP⟩, hS.F ht⟩) hS.2.2 dX8_type_13
set_option maxHeartbeats 4000000 in
set_option maxRecDepth 100000 in
theorem mt_X8_lay_1 (l : Launch) (D : va_G) (dA : Nat → ClassId) (st : Nat) (hst : st = 1 ∨ st = 2) (ad : Nat → Nat) (N : Nat) (hA : yA ad N) (σ : mMem) (x : Int32) (a : Nat) (hx0 : x = nI a) (ha : a + 200 ≤ 270) : Met l yX8_lay (ws_ yX8_lay cX8_lay 4 (some .int)) ({ frames := 0, cells := 0, slots := 0, locals := 0 }) (va_Pc [.ref (ad 0), .ref (ad 1), .int x] (mPre D dA (shM st) ad N σ)) (va_Qi (fun (r : Int32) (u : mMem) => r = nI (a + 200) ∧ u = lay1 σ 1 a 200) (mB D dA (shM st) ad N) (mAd ad N)) 0 0 (mAd ad N) := by
  refine Met.ofW (cc := cX8_lay) (maxL := 4) (ret := (some .int)) (by decide) rfl ?_
  intro pp ee ss mm args below meth cd s₁ B hml hv
  obtain ⟨rfl, hP, hE⟩ := hv
  have hx := B.exec
  have hb := B.bytes
  have hr := B.returns
  have hts := atoms_spec (ws := ws_ yX8_lay cX8_lay 4 (some .int)) B.pre
  have hts : ∀ w ∈ lw_all, w.before _ ss = true := fun w h => hts w (List.mem_cons_of_mem _ h)
  have hown : ss.vm.findClass RX8 = some mm.cls := findClass_of_methodNamed B.named
  have hlocks := B.notSynchronized
  have hD := hA.2.self
  have hS : va_S (mAd ad N) ss.heap ss.heap [] := va_S.rf
  have hNN := hA.1
  have hl := lv_entry ([.ref (ad 0), .ref (ad 1), .int x]) (n := 4) (Nat.le_of_ble_eq_true rfl)
  rw [lg_entry_eq]
  generalize (lg_sl ([.ref (ad 0), .ref (ad 1), .int x]) ++ List.replicate (4 - (lg_sl ([.ref (ad 0), .ref (ad 1), .int x])).length) Slot.unset).toArray = ls at hl ⊢
  have hl : lv_has ls 4 [(0, .ref (ad 0)), (1, .ref (ad 1)), (2, .int x)] := hl
  refine lv_iconst (v := 0) hx hb dX8_lay_0 (by decide) ?_
  refine lv_istore_n (lv' := [(3, .int 0), (0, .ref (ad 0)), (1, .ref (ad 1)), (2, .int x)]) hx hb dX8_lay_1 rfl hl (by decide) rfl (fun ls hl => ?_)
  have lp2 : ∀ (fu : Nat) (k : Nat) (_ : k ≤ 200) (_ : 200 - k < fu) (H : Heap) (locs : List Loc) (_ : va_P D xCl (mW dA (shM st) ad N (va_up σ 13 (lyF (σ 13) (σ 1) a k))) H) (_ : va_S (mAd ad N) ss.heap H locs) (ls : Array Slot) (_ : lv_has ls 4 [(3, .int (nI k)), (0, .ref (ad 0)), (1, .ref (ad 1)), (2, .int x)]), W pp l ee (headSpec (ws_ yX8_lay cX8_lay 4 (some .int)) ({ frames := 0, cells := 0, slots := 0, locals := 0 })).room ss mm ([.ref (ad 0), .ref (ad 1), .int x] : List Value).toArray below meth cd H locs 0 0 (MQ below (va_Qi (fun (r : Int32) (u : mMem) => r = nI (a + 200) ∧ u = lay1 σ 1 a 200) (mB D dA (shM st) ad N) (mAd ad N)) ([.ref (ad 0), .ref (ad 1), .int x] : List Value).toArray ss 0 0 (mAd ad N)) (F0 mm 2 ls []) := by
    intro fu
    induction fu with
    | zero => intro k hk hfu; exact absurd hfu (Nat.not_lt_zero _)
    | succ fu ih2 =>
      intro k hk hfu H locs hP hS ls hl
      refine lv_iload_n hx hb dX8_lay_2 rfl (lv_at hl 0 rfl) ?_
      refine lv_aload_n hx hb dX8_lay_3 rfl (lv_at hl 2 rfl) ?_
      refine mg_alen hx hb hE hP 1 (yl_n hA (by decide)) rfl dX8_lay_4 ?_
      refine lv_icmp_ge (tgt := 25) hx hb dX8_lay_5 (by decide) (fun c_1 => ?_) (fun c_1 => ?_)
      · have nc_1 : 200 ≤ k := mi_le rfl rfl (by omega) (by omega) c_1
        refine lv_iload_n hx hb dX8_lay_25 rfl (lv_at hl 3 rfl) ?_
        refine lv_aload_n hx hb dX8_lay_26 rfl (lv_at hl 2 rfl) ?_
        refine mg_alen hx hb hE hP 1 (yl_n hA (by decide)) rfl dX8_lay_27 ?_
        refine lv_iadd hx hb dX8_lay_28 ?_
        exact W.iret (v := (x + (nI 200))) hx hb hr (fun t ht hW => ⟨⟨_, _, rfl, ⟨mi_add hx0 rfl, by rw [lay1, show 200 = k by omega]⟩, mB.of ht hP⟩, hS.F ht⟩) hS.2.2 dX8_lay_29
      · have nc_1 : k < 200 := mi_nle rfl rfl (by omega) (by omega) c_1
        refine lv_aload_n hx hb dX8_lay_8 rfl (lv_at hl 1 rfl) ?_
        refine mg_ref hx hb hts in_X8 hown hE hP 0 (yl_n hA (by decide)) rfl rfl 22 rfl (by decide) (hts _ q786) (fun _ h9 => h9) dX8_lay_9 ?_
        refine lv_iload_n hx hb dX8_lay_12 rfl (lv_at hl 3 rfl) ?_
        refine lv_iload_n hx hb dX8_lay_13 rfl (lv_at hl 0 rfl) ?_
        refine lv_iadd hx hb dX8_lay_14 ?_
        refine lv_aload_n hx hb dX8_lay_15 rfl (lv_at hl 2 rfl) ?_
        refine lv_iload_n hx hb dX8_lay_16 rfl (lv_at hl 0 rfl) ?_
        refine mg_ild hx hb hE hP 1 (yl_n hA (by decide)) rfl k (by omega) rfl (by decide) dX8_lay_17 ?_
        refine lv_rwi (mv_row (by omega)) ?_
        refine mg_ist (v := σ 1 k) hx hb hE hD hP hS 13 (yl_n hA (by decide)) rfl (a + k) (by omega) (mi_add hx0 rfl) (by decide) dX8_lay_18 (fun H locs hP hS => ?_)
        refine lv_iinc (v := (nI (k + 1))) (lv' := [(3, .int (nI (k + 1))), (0, .ref (ad 0)), (1, .ref (ad 1)), (2, .int x)]) hx hb dX8_lay_19 hl (k := 0) rfl (mi_add rfl rfl) (by decide) rfl (fun ls hl => ?_)
        refine lv_goto (tgt := 2) hx hb dX8_lay_22 (by decide) ?_
        exact ih2  (k + 1) (by omega) (by omega) _ _ (m_eq (mup_up _ _ _ _ _) hP) hS ls (lv_sub hl [0, 1, 2, 3] rfl)
  exact lp2 (200 - 0 + 1) 0 (by omega) (by omega) _ _ (m_eq ((va_up_id rfl).symm) hP) hS ls (lv_sub hl [0, 1, 2, 3] rfl)
set_option maxHeartbeats 4000000 in
set_option maxRecDepth 100000 in
theorem mt_X8_gives_1 (l : Launch) (D : va_G) (dA : Nat → ClassId) (st : Nat) (hst : st = 1 ∨ st = 2) (ad : Nat → Nat) (N : Nat) (hA : yA ad N) (σ : mMem) (x : Int32) (a : Nat) (hx0 : x = nI a) (ha : a + 200 ≤ 270) : Met l yX8_gives (ws_ yX8_gives cX8_gives 4 (some .int)) ({ frames := 0, cells := 0, slots := 0, locals := 0 }) (va_Pc [.ref (ad 0), .int x, .ref (ad 1)] (mPre D dA (shM st) ad N σ)) (va_Qi (fun (r : Int32) (u : mMem) => r = nI (a + 200) ∧ u = giv1 σ 1 a 200) (mB D dA (shM st) ad N) (mAd ad N)) 0 0 (mAd ad N) := by
  refine Met.ofW (cc := cX8_gives) (maxL := 4) (ret := (some .int)) (by decide) rfl ?_
  intro pp ee ss mm args below meth cd s₁ B hml hv
  obtain ⟨rfl, hP, hE⟩ := hv
  have hx := B.exec
  have hb := B.bytes
  have hr := B.returns
  have hts := atoms_spec (ws := ws_ yX8_gives cX8_gives 4 (some .int)) B.pre
  have hts : ∀ w ∈ lw_all, w.before _ ss = true := fun w h => hts w (List.mem_cons_of_mem _ h)
  have hown : ss.vm.findClass RX8 = some mm.cls := findClass_of_methodNamed B.named
  have hlocks := B.notSynchronized
  have hD := hA.2.self
  have hS : va_S (mAd ad N) ss.heap ss.heap [] := va_S.rf
  have hNN := hA.1
  have hl := lv_entry ([.ref (ad 0), .int x, .ref (ad 1)]) (n := 4) (Nat.le_of_ble_eq_true rfl)
  rw [lg_entry_eq]
  generalize (lg_sl ([.ref (ad 0), .int x, .ref (ad 1)]) ++ List.replicate (4 - (lg_sl ([.ref (ad 0), .int x, .ref (ad 1)])).length) Slot.unset).toArray = ls at hl ⊢
  have hl : lv_has ls 4 [(0, .ref (ad 0)), (1, .int x), (2, .ref (ad 1))] := hl
  refine lv_iconst (v := 0) hx hb dX8_gives_0 (by decide) ?_
  refine lv_istore_n (lv' := [(3, .int 0), (0, .ref (ad 0)), (1, .int x), (2, .ref (ad 1))]) hx hb dX8_gives_1 rfl hl (by decide) rfl (fun ls hl => ?_)
  have lp2 : ∀ (fu : Nat) (k : Nat) (_ : k ≤ 200) (_ : 200 - k < fu) (H : Heap) (locs : List Loc) (_ : va_P D xCl (mW dA (shM st) ad N (va_up σ 1 (gvM (σ 1) (σ 13) a k))) H) (_ : va_S (mAd ad N) ss.heap H locs) (ls : Array Slot) (_ : lv_has ls 4 [(3, .int (nI k)), (0, .ref (ad 0)), (1, .int x), (2, .ref (ad 1))]), W pp l ee (headSpec (ws_ yX8_gives cX8_gives 4 (some .int)) ({ frames := 0, cells := 0, slots := 0, locals := 0 })).room ss mm ([.ref (ad 0), .int x, .ref (ad 1)] : List Value).toArray below meth cd H locs 0 0 (MQ below (va_Qi (fun (r : Int32) (u : mMem) => r = nI (a + 200) ∧ u = giv1 σ 1 a 200) (mB D dA (shM st) ad N) (mAd ad N)) ([.ref (ad 0), .int x, .ref (ad 1)] : List Value).toArray ss 0 0 (mAd ad N)) (F0 mm 2 ls []) := by
    intro fu
    induction fu with
    | zero => intro k hk hfu; exact absurd hfu (Nat.not_lt_zero _)
    | succ fu ih2 =>
      intro k hk hfu H locs hP hS ls hl
      refine lv_iload_n hx hb dX8_gives_2 rfl (lv_at hl 0 rfl) ?_
      refine lv_aload_n hx hb dX8_gives_3 rfl (lv_at hl 3 rfl) ?_
      refine mg_alen hx hb hE hP 1 (yl_n hA (by decide)) rfl dX8_gives_4 ?_
      refine lv_icmp_ge (tgt := 25) hx hb dX8_gives_5 (by decide) (fun c_1 => ?_) (fun c_1 => ?_)
      · have nc_1 : 200 ≤ k := mi_le rfl rfl (by omega) (by omega) c_1
        refine lv_iload_n hx hb dX8_gives_25 rfl (lv_at hl 2 rfl) ?_
        refine lv_aload_n hx hb dX8_gives_26 rfl (lv_at hl 3 rfl) ?_
        refine mg_alen hx hb hE hP 1 (yl_n hA (by decide)) rfl dX8_gives_27 ?_
        refine lv_iadd hx hb dX8_gives_28 ?_
        exact W.iret (v := (x + (nI 200))) hx hb hr (fun t ht hW => ⟨⟨_, _, rfl, ⟨mi_add hx0 rfl, by rw [giv1, show 200 = k by omega]⟩, mB.of ht hP⟩, hS.F ht⟩) hS.2.2 dX8_gives_29
      · have nc_1 : k < 200 := mi_nle rfl rfl (by omega) (by omega) c_1
        refine lv_aload_n hx hb dX8_gives_8 rfl (lv_at hl 3 rfl) ?_
        refine lv_iload_n hx hb dX8_gives_9 rfl (lv_at hl 0 rfl) ?_
        refine lv_aload_n hx hb dX8_gives_10 rfl (lv_at hl 1 rfl) ?_
        refine mg_ref hx hb hts in_X8 hown hE hP 0 (yl_n hA (by decide)) rfl rfl 22 rfl (by decide) (hts _ q786) (fun _ h9 => h9) dX8_gives_11 ?_
        refine lv_iload_n hx hb dX8_gives_14 rfl (lv_at hl 2 rfl) ?_
        refine lv_iload_n hx hb dX8_gives_15 rfl (lv_at hl 0 rfl) ?_
        refine lv_iadd hx hb dX8_gives_16 ?_
        refine mg_ild hx hb hE hP 13 (yl_n hA (by decide)) rfl (a + k) (by omega) (mi_add hx0 rfl) (by decide) dX8_gives_17 ?_
        refine lv_rwi (mv_row (by omega)) ?_
        refine mg_ist (v := σ 13 (a + k)) hx hb hE hD hP hS 1 (yl_n hA (by decide)) rfl k (by omega) rfl (by decide) dX8_gives_18 (fun H locs hP hS => ?_)
        refine lv_iinc (v := (nI (k + 1))) (lv' := [(3, .int (nI (k + 1))), (0, .ref (ad 0)), (1, .int x), (2, .ref (ad 1))]) hx hb dX8_gives_19 hl (k := 0) rfl (mi_add rfl rfl) (by decide) rfl (fun ls hl => ?_)
        refine lv_goto (tgt := 2) hx hb dX8_gives_22 (by decide) ?_
        exact ih2  (k + 1) (by omega) (by omega) _ _ (m_eq (mup_up _ _ _ _ _) hP) hS ls (lv_sub hl [0, 1, 2, 3] rfl)
  exact lp2 (200 - 0 + 1) 0 (by omega) (by omega) _ _ (m_eq ((va_up_id rfl).symm) hP) hS ls (lv_sub hl [0, 1, 2, 3] rfl)
set_option maxHeartbeats 4000000 in
set_option maxRecDepth 100000 in
theorem mt_X8_lay_3 (l : Launch) (D : va_G) (dA : Nat → ClassId) (st : Nat) (hst : st = 1 ∨ st = 2) (ad : Nat → Nat) (N : Nat) (hA : yA ad N) (σ : mMem) (x : Int32) (a : Nat) (hx0 : x = nI a) (ha : a + 25 ≤ 270) : Met l yX8_lay (ws_ yX8_lay cX8_lay 4 (some .int)) ({ frames := 0, cells := 0, slots := 0, locals := 0 }) (va_Pc [.ref (ad 0), .ref (ad 3), .int x] (mPre D dA (shM st) ad N σ)) (va_Qi (fun (r : Int32) (u : mMem) => r = nI (a + 25) ∧ u = lay1 σ 3 a 25) (mB D dA (shM st) ad N) (mAd ad N)) 0 0 (mAd ad N) := by
  refine Met.ofW (cc := cX8_lay) (maxL := 4) (ret := (some .int)) (by decide) rfl ?_
  intro pp ee ss mm args below meth cd s₁ B hml hv
  obtain ⟨rfl, hP, hE⟩ := hv
  have hx := B.exec
  have hb := B.bytes
  have hr := B.returns
  have hts := atoms_spec (ws := ws_ yX8_lay cX8_lay 4 (some .int)) B.pre
  have hts : ∀ w ∈ lw_all, w.before _ ss = true := fun w h => hts w (List.mem_cons_of_mem _ h)
  have hown : ss.vm.findClass RX8 = some mm.cls := findClass_of_methodNamed B.named
  have hlocks := B.notSynchronized
  have hD := hA.2.self
  have hS : va_S (mAd ad N) ss.heap ss.heap [] := va_S.rf
  have hNN := hA.1
  have hl := lv_entry ([.ref (ad 0), .ref (ad 3), .int x]) (n := 4) (Nat.le_of_ble_eq_true rfl)
  rw [lg_entry_eq]
  generalize (lg_sl ([.ref (ad 0), .ref (ad 3), .int x]) ++ List.replicate (4 - (lg_sl ([.ref (ad 0), .ref (ad 3), .int x])).length) Slot.unset).toArray = ls at hl ⊢
  have hl : lv_has ls 4 [(0, .ref (ad 0)), (1, .ref (ad 3)), (2, .int x)] := hl
  refine lv_iconst (v := 0) hx hb dX8_lay_0 (by decide) ?_
  refine lv_istore_n (lv' := [(3, .int 0), (0, .ref (ad 0)), (1, .ref (ad 3)), (2, .int x)]) hx hb dX8_lay_1 rfl hl (by decide) rfl (fun ls hl => ?_)
  have lp2 : ∀ (fu : Nat) (k : Nat) (_ : k ≤ 25) (_ : 25 - k < fu) (H : Heap) (locs : List Loc) (_ : va_P D xCl (mW dA (shM st) ad N (va_up σ 13 (lyF (σ 13) (σ 3) a k))) H) (_ : va_S (mAd ad N) ss.heap H locs) (ls : Array Slot) (_ : lv_has ls 4 [(3, .int (nI k)), (0, .ref (ad 0)), (1, .ref (ad 3)), (2, .int x)]), W pp l ee (headSpec (ws_ yX8_lay cX8_lay 4 (some .int)) ({ frames := 0, cells := 0, slots := 0, locals := 0 })).room ss mm ([.ref (ad 0), .ref (ad 3), .int x] : List Value).toArray below meth cd H locs 0 0 (MQ below (va_Qi (fun (r : Int32) (u : mMem) => r = nI (a + 25) ∧ u = lay1 σ 3 a 25) (mB D dA (shM st) ad N) (mAd ad N)) ([.ref (ad 0), .ref (ad 3), .int x] : List Value).toArray ss 0 0 (mAd ad N)) (F0 mm 2 ls []) := by
    intro fu
    induction fu with
    | zero => intro k hk hfu; exact absurd hfu (Nat.not_lt_zero _)
    | succ fu ih2 =>
      intro k hk hfu H locs hP hS ls hl
      refine lv_iload_n hx hb dX8_lay_2 rfl (lv_at hl 0 rfl) ?_
      refine lv_aload_n hx hb dX8_lay_3 rfl (lv_at hl 2 rfl) ?_
      refine mg_alen hx hb hE hP 3 (yl_n hA (by decide)) rfl dX8_lay_4 ?_
      refine lv_icmp_ge (tgt := 25) hx hb dX8_lay_5 (by decide) (fun c_1 => ?_) (fun c_1 => ?_)
      · have nc_1 : 25 ≤ k := mi_le rfl rfl (by omega) (by omega) c_1
        refine lv_iload_n hx hb dX8_lay_25 rfl (lv_at hl 3 rfl) ?_
        refine lv_aload_n hx hb dX8_lay_26 rfl (lv_at hl 2 rfl) ?_
        refine mg_alen hx hb hE hP 3 (yl_n hA (by decide)) rfl dX8_lay_27 ?_
        refine lv_iadd hx hb dX8_lay_28 ?_
        exact W.iret (v := (x + (nI 25))) hx hb hr (fun t ht hW => ⟨⟨_, _, rfl, ⟨mi_add hx0 rfl, by rw [lay1, show 25 = k by omega]⟩, mB.of ht hP⟩, hS.F ht⟩) hS.2.2 dX8_lay_29
      · have nc_1 : k < 25 := mi_nle rfl rfl (by omega) (by omega) c_1
        refine lv_aload_n hx hb dX8_lay_8 rfl (lv_at hl 1 rfl) ?_
        refine mg_ref hx hb hts in_X8 hown hE hP 0 (yl_n hA (by decide)) rfl rfl 22 rfl (by decide) (hts _ q786) (fun _ h9 => h9) dX8_lay_9 ?_
        refine lv_iload_n hx hb dX8_lay_12 rfl (lv_at hl 3 rfl) ?_
        refine lv_iload_n hx hb dX8_lay_13 rfl (lv_at hl 0 rfl) ?_
        refine lv_iadd hx hb dX8_lay_14 ?_
        refine lv_aload_n hx hb dX8_lay_15 rfl (lv_at hl 2 rfl) ?_
        refine lv_iload_n hx hb dX8_lay_16 rfl (lv_at hl 0 rfl) ?_
        refine mg_ild hx hb hE hP 3 (yl_n hA (by decide)) rfl k (by omega) rfl (by decide) dX8_lay_17 ?_
        refine lv_rwi (mv_row (by omega)) ?_
        refine mg_ist (v := σ 3 k) hx hb hE hD hP hS 13 (yl_n hA (by decide)) rfl (a + k) (by omega) (mi_add hx0 rfl) (by decide) dX8_lay_18 (fun H locs hP hS => ?_)
        refine lv_iinc (v := (nI (k + 1))) (lv' := [(3, .int (nI (k + 1))), (0, .ref (ad 0)), (1, .ref (ad 3)), (2, .int x)]) hx hb dX8_lay_19 hl (k := 0) rfl (mi_add rfl rfl) (by decide) rfl (fun ls hl => ?_)
        refine lv_goto (tgt := 2) hx hb dX8_lay_22 (by decide) ?_
        exact ih2  (k + 1) (by omega) (by omega) _ _ (m_eq (mup_up _ _ _ _ _) hP) hS ls (lv_sub hl [0, 1, 2, 3] rfl)
  exact lp2 (25 - 0 + 1) 0 (by omega) (by omega) _ _ (m_eq ((va_up_id rfl).symm) hP) hS ls (lv_sub hl [0, 1, 2, 3] rfl)
set_option maxHeartbeats 4000000 in
set_option maxRecDepth 100000 in
theorem mt_X8_gives_3 (l : Launch) (D : va_G) (dA : Nat → ClassId) (st : Nat) (hst : st = 1 ∨ st = 2) (ad : Nat → Nat) (N : Nat) (hA : yA ad N) (σ : mMem) (x : Int32) (a : Nat) (hx0 : x = nI a) (ha : a + 25 ≤ 270) : Met l yX8_gives (ws_ yX8_gives cX8_gives 4 (some .int)) ({ frames := 0, cells := 0, slots := 0, locals := 0 }) (va_Pc [.ref (ad 0), .int x, .ref (ad 3)] (mPre D dA (shM st) ad N σ)) (va_Qi (fun (r : Int32) (u : mMem) => r = nI (a + 25) ∧ u = giv1 σ 3 a 25) (mB D dA (shM st) ad N) (mAd ad N)) 0 0 (mAd ad N) := by
  refine Met.ofW (cc := cX8_gives) (maxL := 4) (ret := (some .int)) (by decide) rfl ?_
  intro pp ee ss mm args below meth cd s₁ B hml hv
  obtain ⟨rfl, hP, hE⟩ := hv
  have hx := B.exec
  have hb := B.bytes
  have hr := B.returns
  have hts := atoms_spec (ws := ws_ yX8_gives cX8_gives 4 (some .int)) B.pre
  have hts : ∀ w ∈ lw_all, w.before _ ss = true := fun w h => hts w (List.mem_cons_of_mem _ h)
  have hown : ss.vm.findClass RX8 = some mm.cls := findClass_of_methodNamed B.named
  have hlocks := B.notSynchronized
  have hD := hA.2.self
  have hS : va_S (mAd ad N) ss.heap ss.heap [] := va_S.rf
  have hNN := hA.1
  have hl := lv_entry ([.ref (ad 0), .int x, .ref (ad 3)]) (n := 4) (Nat.le_of_ble_eq_true rfl)
  rw [lg_entry_eq]
  generalize (lg_sl ([.ref (ad 0), .int x, .ref (ad 3)]) ++ List.replicate (4 - (lg_sl ([.ref (ad 0), .int x, .ref (ad 3)])).length) Slot.unset).toArray = ls at hl ⊢
  have hl : lv_has ls 4 [(0, .ref (ad 0)), (1, .int x), (2, .ref (ad 3))] := hl
  refine lv_iconst (v := 0) hx hb dX8_gives_0 (by decide) ?_
  refine lv_istore_n (lv' := [(3, .int 0), (0, .ref (ad 0)), (1, .int x), (2, .ref (ad 3))]) hx hb dX8_gives_1 rfl hl (by decide) rfl (fun ls hl => ?_)
  have lp2 : ∀ (fu : Nat) (k : Nat) (_ : k ≤ 25) (_ : 25 - k < fu) (H : Heap) (locs : List Loc) (_ : va_P D xCl (mW dA (shM st) ad N (va_up σ 3 (gvM (σ 3) (σ 13) a k))) H) (_ : va_S (mAd ad N) ss.heap H locs) (ls : Array Slot) (_ : lv_has ls 4 [(3, .int (nI k)), (0, .ref (ad 0)), (1, .int x), (2, .ref (ad 3))]), W pp l ee (headSpec (ws_ yX8_gives cX8_gives 4 (some .int)) ({ frames := 0, cells := 0, slots := 0, locals := 0 })).room ss mm ([.ref (ad 0), .int x, .ref (ad 3)] : List Value).toArray below meth cd H locs 0 0 (MQ below (va_Qi (fun (r : Int32) (u : mMem) => r = nI (a + 25) ∧ u = giv1 σ 3 a 25) (mB D dA (shM st) ad N) (mAd ad N)) ([.ref (ad 0), .int x, .ref (ad 3)] : List Value).toArray ss 0 0 (mAd ad N)) (F0 mm 2 ls []) := by
    intro fu
    induction fu with
    | zero => intro k hk hfu; exact absurd hfu (Nat.not_lt_zero _)
    | succ fu ih2 =>
      intro k hk hfu H locs hP hS ls hl
      refine lv_iload_n hx hb dX8_gives_2 rfl (lv_at hl 0 rfl) ?_
      refine lv_aload_n hx hb dX8_gives_3 rfl (lv_at hl 3 rfl) ?_
      refine mg_alen hx hb hE hP 3 (yl_n hA (by decide)) rfl dX8_gives_4 ?_
      refine lv_icmp_ge (tgt := 25) hx hb dX8_gives_5 (by decide) (fun c_1 => ?_) (fun c_1 => ?_)
      · have nc_1 : 25 ≤ k := mi_le rfl rfl (by omega) (by omega) c_1
        refine lv_iload_n hx hb dX8_gives_25 rfl (lv_at hl 2 rfl) ?_
        refine lv_aload_n hx hb dX8_gives_26 rfl (lv_at hl 3 rfl) ?_
        refine mg_alen hx hb hE hP 3 (yl_n hA (by decide)) rfl dX8_gives_27 ?_
        refine lv_iadd hx hb dX8_gives_28 ?_
        exact W.iret (v := (x + (nI 25))) hx hb hr (fun t ht hW => ⟨⟨_, _, rfl, ⟨mi_add hx0 rfl, by rw [giv1, show 25 = k by omega]⟩, mB.of ht hP⟩, hS.F ht⟩) hS.2.2 dX8_gives_29
      · have nc_1 : k < 25 := mi_nle rfl rfl (by omega) (by omega) c_1
        refine lv_aload_n hx hb dX8_gives_8 rfl (lv_at hl 3 rfl) ?_
        refine lv_iload_n hx hb dX8_gives_9 rfl (lv_at hl 0 rfl) ?_
        refine lv_aload_n hx hb dX8_gives_10 rfl (lv_at hl 1 rfl) ?_
        refine mg_ref hx hb hts in_X8 hown hE hP 0 (yl_n hA (by decide)) rfl rfl 22 rfl (by decide) (hts _ q786) (fun _ h9 => h9) dX8_gives_11 ?_
        refine lv_iload_n hx hb dX8_gives_14 rfl (lv_at hl 2 rfl) ?_
        refine lv_iload_n hx hb dX8_gives_15 rfl (lv_at hl 0 rfl) ?_
        refine lv_iadd hx hb dX8_gives_16 ?_
        refine mg_ild hx hb hE hP 13 (yl_n hA (by decide)) rfl (a + k) (by omega) (mi_add hx0 rfl) (by decide) dX8_gives_17 ?_
        refine lv_rwi (mv_row (by omega)) ?_
        refine mg_ist (v := σ 13 (a + k)) hx hb hE hD hP hS 3 (yl_n hA (by decide)) rfl k (by omega) rfl (by decide) dX8_gives_18 (fun H locs hP hS => ?_)
        refine lv_iinc (v := (nI (k + 1))) (lv' := [(3, .int (nI (k + 1))), (0, .ref (ad 0)), (1, .int x), (2, .ref (ad 3))]) hx hb dX8_gives_19 hl (k := 0) rfl (mi_add rfl rfl) (by decide) rfl (fun ls hl => ?_)
        refine lv_goto (tgt := 2) hx hb dX8_gives_22 (by decide) ?_
        exact ih2  (k + 1) (by omega) (by omega) _ _ (m_eq (mup_up _ _ _ _ _) hP) hS ls (lv_sub hl [0, 1, 2, 3] rfl)
  exact lp2 (25 - 0 + 1) 0 (by omega) (by omega) _ _ (m_eq ((va_up_id rfl).symm) hP) hS ls (lv_sub hl [0, 1, 2, 3] rfl)
set_option maxHeartbeats 4000000 in
set_option maxRecDepth 100000 in
theorem mt_X8_lay_4 (l : Launch) (D : va_G) (dA : Nat → ClassId) (st : Nat) (hst : st = 1 ∨ st = 2) (ad : Nat → Nat) (N : Nat) (hA : yA ad N) (σ : mMem) (x : Int32) (a : Nat) (hx0 : x = nI a) (ha : a + 12 ≤ 270) : Met l yX8_lay (ws_ yX8_lay cX8_lay 4 (some .int)) ({ frames := 0, cells := 0, slots := 0, locals := 0 }) (va_Pc [.ref (ad 0), .ref (ad 4), .int x] (mPre D dA (shM st) ad N σ)) (va_Qi (fun (r : Int32) (u : mMem) => r = nI (a + 12) ∧ u = lay1 σ 4 a 12) (mB D dA (shM st) ad N) (mAd ad N)) 0 0 (mAd ad N) := by
  refine Met.ofW (cc := cX8_lay) (maxL := 4) (ret := (some .int)) (by decide) rfl ?_
  intro pp ee ss mm args below meth cd s₁ B hml hv
  obtain ⟨rfl, hP, hE⟩ := hv
  have hx := B.exec
  have hb := B.bytes
  have hr := B.returns
  have hts := atoms_spec (ws := ws_ yX8_lay cX8_lay 4 (some .int)) B.pre
  have hts : ∀ w ∈ lw_all, w.before _ ss = true := fun w h => hts w (List.mem_cons_of_mem _ h)
  have hown : ss.vm.findClass RX8 = some mm.cls := findClass_of_methodNamed B.named
  have hlocks := B.notSynchronized
  have hD := hA.2.self
  have hS : va_S (mAd ad N) ss.heap ss.heap [] := va_S.rf
  have hNN := hA.1
  have hl := lv_entry ([.ref (ad 0), .ref (ad 4), .int x]) (n := 4) (Nat.le_of_ble_eq_true rfl)
  rw [lg_entry_eq]
  generalize (lg_sl ([.ref (ad 0), .ref (ad 4), .int x]) ++ List.replicate (4 - (lg_sl ([.ref (ad 0), .ref (ad 4), .int x])).length) Slot.unset).toArray = ls at hl ⊢
  have hl : lv_has ls 4 [(0, .ref (ad 0)), (1, .ref (ad 4)), (2, .int x)] := hl
  refine lv_iconst (v := 0) hx hb dX8_lay_0 (by decide) ?_
  refine lv_istore_n (lv' := [(3, .int 0), (0, .ref (ad 0)), (1, .ref (ad 4)), (2, .int x)]) hx hb dX8_lay_1 rfl hl (by decide) rfl (fun ls hl => ?_)
  have lp2 : ∀ (fu : Nat) (k : Nat) (_ : k ≤ 12) (_ : 12 - k < fu) (H : Heap) (locs : List Loc) (_ : va_P D xCl (mW dA (shM st) ad N (va_up σ 13 (lyF (σ 13) (σ 4) a k))) H) (_ : va_S (mAd ad N) ss.heap H locs) (ls : Array Slot) (_ : lv_has ls 4 [(3, .int (nI k)), (0, .ref (ad 0)), (1, .ref (ad 4)), (2, .int x)]), W pp l ee (headSpec (ws_ yX8_lay cX8_lay 4 (some .int)) ({ frames := 0, cells := 0, slots := 0, locals := 0 })).room ss mm ([.ref (ad 0), .ref (ad 4), .int x] : List Value).toArray below meth cd H locs 0 0 (MQ below (va_Qi (fun (r : Int32) (u : mMem) => r = nI (a + 12) ∧ u = lay1 σ 4 a 12) (mB D dA (shM st) ad N) (mAd ad N)) ([.ref (ad 0), .ref (ad 4), .int x] : List Value).toArray ss 0 0 (mAd ad N)) (F0 mm 2 ls []) := by
    intro fu
    induction fu with
    | zero => intro k hk hfu; exact absurd hfu (Nat.not_lt_zero _)
    | succ fu ih2 =>
      intro k hk hfu H locs hP hS ls hl
      refine lv_iload_n hx hb dX8_lay_2 rfl (lv_at hl 0 rfl) ?_
      refine lv_aload_n hx hb dX8_lay_3 rfl (lv_at hl 2 rfl) ?_
      refine mg_alen hx hb hE hP 4 (yl_n hA (by decide)) rfl dX8_lay_4 ?_
      refine lv_icmp_ge (tgt := 25) hx hb dX8_lay_5 (by decide) (fun c_1 => ?_) (fun c_1 => ?_)
      · have nc_1 : 12 ≤ k := mi_le rfl rfl (by omega) (by omega) c_1
        refine lv_iload_n hx hb dX8_lay_25 rfl (lv_at hl 3 rfl) ?_
        refine lv_aload_n hx hb dX8_lay_26 rfl (lv_at hl 2 rfl) ?_
        refine mg_alen hx hb hE hP 4 (yl_n hA (by decide)) rfl dX8_lay_27 ?_
        refine lv_iadd hx hb dX8_lay_28 ?_
        exact W.iret (v := (x + (nI 12))) hx hb hr (fun t ht hW => ⟨⟨_, _, rfl, ⟨mi_add hx0 rfl, by rw [lay1, show 12 = k by omega]⟩, mB.of ht hP⟩, hS.F ht⟩) hS.2.2 dX8_lay_29
      · have nc_1 : k < 12 := mi_nle rfl rfl (by omega) (by omega) c_1
        refine lv_aload_n hx hb dX8_lay_8 rfl (lv_at hl 1 rfl) ?_
        refine mg_ref hx hb hts in_X8 hown hE hP 0 (yl_n hA (by decide)) rfl rfl 22 rfl (by decide) (hts _ q786) (fun _ h9 => h9) dX8_lay_9 ?_
        refine lv_iload_n hx hb dX8_lay_12 rfl (lv_at hl 3 rfl) ?_
        refine lv_iload_n hx hb dX8_lay_13 rfl (lv_at hl 0 rfl) ?_
        refine lv_iadd hx hb dX8_lay_14 ?_
        refine lv_aload_n hx hb dX8_lay_15 rfl (lv_at hl 2 rfl) ?_
        refine lv_iload_n hx hb dX8_lay_16 rfl (lv_at hl 0 rfl) ?_
        refine mg_ild hx hb hE hP 4 (yl_n hA (by decide)) rfl k (by omega) rfl (by decide) dX8_lay_17 ?_
        refine lv_rwi (mv_row (by omega)) ?_
        refine mg_ist (v := σ 4 k) hx hb hE hD hP hS 13 (yl_n hA (by decide)) rfl (a + k) (by omega) (mi_add hx0 rfl) (by decide) dX8_lay_18 (fun H locs hP hS => ?_)
        refine lv_iinc (v := (nI (k + 1))) (lv' := [(3, .int (nI (k + 1))), (0, .ref (ad 0)), (1, .ref (ad 4)), (2, .int x)]) hx hb dX8_lay_19 hl (k := 0) rfl (mi_add rfl rfl) (by decide) rfl (fun ls hl => ?_)
        refine lv_goto (tgt := 2) hx hb dX8_lay_22 (by decide) ?_
        exact ih2  (k + 1) (by omega) (by omega) _ _ (m_eq (mup_up _ _ _ _ _) hP) hS ls (lv_sub hl [0, 1, 2, 3] rfl)
  exact lp2 (12 - 0 + 1) 0 (by omega) (by omega) _ _ (m_eq ((va_up_id rfl).symm) hP) hS ls (lv_sub hl [0, 1, 2, 3] rfl)
set_option maxHeartbeats 4000000 in
set_option maxRecDepth 100000 in
theorem mt_X8_gives_4 (l : Launch) (D : va_G) (dA : Nat → ClassId) (st : Nat) (hst : st = 1 ∨ st = 2) (ad : Nat → Nat) (N : Nat) (hA : yA ad N) (σ : mMem) (x : Int32) (a : Nat) (hx0 : x = nI a) (ha : a + 12 ≤ 270) : Met l yX8_gives (ws_ yX8_gives cX8_gives 4 (some .int)) ({ frames := 0, cells := 0, slots := 0, locals := 0 }) (va_Pc [.ref (ad 0), .int x, .ref (ad 4)] (mPre D dA (shM st) ad N σ)) (va_Qi (fun (r : Int32) (u : mMem) => r = nI (a + 12) ∧ u = giv1 σ 4 a 12) (mB D dA (shM st) ad N) (mAd ad N)) 0 0 (mAd ad N) := by
  refine Met.ofW (cc := cX8_gives) (maxL := 4) (ret := (some .int)) (by decide) rfl ?_
  intro pp ee ss mm args below meth cd s₁ B hml hv
  obtain ⟨rfl, hP, hE⟩ := hv
  have hx := B.exec
  have hb := B.bytes
  have hr := B.returns
  have hts := atoms_spec (ws := ws_ yX8_gives cX8_gives 4 (some .int)) B.pre
  have hts : ∀ w ∈ lw_all, w.before _ ss = true := fun w h => hts w (List.mem_cons_of_mem _ h)
  have hown : ss.vm.findClass RX8 = some mm.cls := findClass_of_methodNamed B.named
  have hlocks := B.notSynchronized
  have hD := hA.2.self
  have hS : va_S (mAd ad N) ss.heap ss.heap [] := va_S.rf
  have hNN := hA.1
  have hl := lv_entry ([.ref (ad 0), .int x, .ref (ad 4)]) (n := 4) (Nat.le_of_ble_eq_true rfl)
  rw [lg_entry_eq]
  generalize (lg_sl ([.ref (ad 0), .int x, .ref (ad 4)]) ++ List.replicate (4 - (lg_sl ([.ref (ad 0), .int x, .ref (ad 4)])).length) Slot.unset).toArray = ls at hl ⊢
  have hl : lv_has ls 4 [(0, .ref (ad 0)), (1, .int x), (2, .ref (ad 4))] := hl
  refine lv_iconst (v := 0) hx hb dX8_gives_0 (by decide) ?_
  refine lv_istore_n (lv' := [(3, .int 0), (0, .ref (ad 0)), (1, .int x), (2, .ref (ad 4))]) hx hb dX8_gives_1 rfl hl (by decide) rfl (fun ls hl => ?_)
  have lp2 : ∀ (fu : Nat) (k : Nat) (_ : k ≤ 12) (_ : 12 - k < fu) (H : Heap) (locs : List Loc) (_ : va_P D xCl (mW dA (shM st) ad N (va_up σ 4 (gvM (σ 4) (σ 13) a k))) H) (_ : va_S (mAd ad N) ss.heap H locs) (ls : Array Slot) (_ : lv_has ls 4 [(3, .int (nI k)), (0, .ref (ad 0)), (1, .int x), (2, .ref (ad 4))]), W pp l ee (headSpec (ws_ yX8_gives cX8_gives 4 (some .int)) ({ frames := 0, cells := 0, slots := 0, locals := 0 })).room ss mm ([.ref (ad 0), .int x, .ref (ad 4)] : List Value).toArray below meth cd H locs 0 0 (MQ below (va_Qi (fun (r : Int32) (u : mMem) => r = nI (a + 12) ∧ u = giv1 σ 4 a 12) (mB D dA (shM st) ad N) (mAd ad N)) ([.ref (ad 0), .int x, .ref (ad 4)] : List Value).toArray ss 0 0 (mAd ad N)) (F0 mm 2 ls []) := by
    intro fu
    induction fu with
    | zero => intro k hk hfu; exact absurd hfu (Nat.not_lt_zero _)
    | succ fu ih2 =>
      intro k hk hfu H locs hP hS ls hl
      refine lv_iload_n hx hb dX8_gives_2 rfl (lv_at hl 0 rfl) ?_
      refine lv_aload_n hx hb dX8_gives_3 rfl (lv_at hl 3 rfl) ?_
      refine mg_alen hx hb hE hP 4 (yl_n hA (by decide)) rfl dX8_gives_4 ?_
      refine lv_icmp_ge (tgt := 25) hx hb dX8_gives_5 (by decide) (fun c_1 => ?_) (fun c_1 => ?_)
      · have nc_1 : 12 ≤ k := mi_le rfl rfl (by omega) (by omega) c_1
        refine lv_iload_n hx hb dX8_gives_25 rfl (lv_at hl 2 rfl) ?_
        refine lv_aload_n hx hb dX8_gives_26 rfl (lv_at hl 3 rfl) ?_
        refine mg_alen hx hb hE hP 4 (yl_n hA (by decide)) rfl dX8_gives_27 ?_
        refine lv_iadd hx hb dX8_gives_28 ?_
        exact W.iret (v := (x + (nI 12))) hx hb hr (fun t ht hW => ⟨⟨_, _, rfl, ⟨mi_add hx0 rfl, by rw [giv1, show 12 = k by omega]⟩, mB.of ht hP⟩, hS.F ht⟩) hS.2.2 dX8_gives_29
      · have nc_1 : k < 12 := mi_nle rfl rfl (by omega) (by omega) c_1
        refine lv_aload_n hx hb dX8_gives_8 rfl (lv_at hl 3 rfl) ?_
        refine lv_iload_n hx hb dX8_gives_9 rfl (lv_at hl 0 rfl) ?_
        refine lv_aload_n hx hb dX8_gives_10 rfl (lv_at hl 1 rfl) ?_
        refine mg_ref hx hb hts in_X8 hown hE hP 0 (yl_n hA (by decide)) rfl rfl 22 rfl (by decide) (hts _ q786) (fun _ h9 => h9) dX8_gives_11 ?_
        refine lv_iload_n hx hb dX8_gives_14 rfl (lv_at hl 2 rfl) ?_
        refine lv_iload_n hx hb dX8_gives_15 rfl (lv_at hl 0 rfl) ?_
        refine lv_iadd hx hb dX8_gives_16 ?_
        refine mg_ild hx hb hE hP 13 (yl_n hA (by decide)) rfl (a + k) (by omega) (mi_add hx0 rfl) (by decide) dX8_gives_17 ?_
        refine lv_rwi (mv_row (by omega)) ?_
        refine mg_ist (v := σ 13 (a + k)) hx hb hE hD hP hS 4 (yl_n hA (by decide)) rfl k (by omega) rfl (by decide) dX8_gives_18 (fun H locs hP hS => ?_)
        refine lv_iinc (v := (nI (k + 1))) (lv' := [(3, .int (nI (k + 1))), (0, .ref (ad 0)), (1, .int x), (2, .ref (ad 4))]) hx hb dX8_gives_19 hl (k := 0) rfl (mi_add rfl rfl) (by decide) rfl (fun ls hl => ?_)
        refine lv_goto (tgt := 2) hx hb dX8_gives_22 (by decide) ?_
        exact ih2  (k + 1) (by omega) (by omega) _ _ (m_eq (mup_up _ _ _ _ _) hP) hS ls (lv_sub hl [0, 1, 2, 3] rfl)
  exact lp2 (12 - 0 + 1) 0 (by omega) (by omega) _ _ (m_eq ((va_up_id rfl).symm) hP) hS ls (lv_sub hl [0, 1, 2, 3] rfl)
set_option maxHeartbeats 4000000 in
set_option maxRecDepth 100000 in
theorem mt_X8_lay_5 (l : Launch) (D : va_G) (dA : Nat → ClassId) (st : Nat) (hst : st = 1 ∨ st = 2) (ad : Nat → Nat) (N : Nat) (hA : yA ad N) (σ : mMem) (x : Int32) (a : Nat) (hx0 : x = nI a) (ha : a + 2 ≤ 270) : Met l yX8_lay (ws_ yX8_lay cX8_lay 4 (some .int)) ({ frames := 0, cells := 0, slots := 0, locals := 0 }) (va_Pc [.ref (ad 0), .ref (ad 5), .int x] (mPre D dA (shM st) ad N σ)) (va_Qi (fun (r : Int32) (u : mMem) => r = nI (a + 2) ∧ u = lay1 σ 5 a 2) (mB D dA (shM st) ad N) (mAd ad N)) 0 0 (mAd ad N) := by
  refine Met.ofW (cc := cX8_lay) (maxL := 4) (ret := (some .int)) (by decide) rfl ?_
  intro pp ee ss mm args below meth cd s₁ B hml hv
  obtain ⟨rfl, hP, hE⟩ := hv
  have hx := B.exec
  have hb := B.bytes
  have hr := B.returns
  have hts := atoms_spec (ws := ws_ yX8_lay cX8_lay 4 (some .int)) B.pre
  have hts : ∀ w ∈ lw_all, w.before _ ss = true := fun w h => hts w (List.mem_cons_of_mem _ h)
  have hown : ss.vm.findClass RX8 = some mm.cls := findClass_of_methodNamed B.named
  have hlocks := B.notSynchronized
  have hD := hA.2.self
  have hS : va_S (mAd ad N) ss.heap ss.heap [] := va_S.rf
  have hNN := hA.1
  have hl := lv_entry ([.ref (ad 0), .ref (ad 5), .int x]) (n := 4) (Nat.le_of_ble_eq_true rfl)
  rw [lg_entry_eq]
  generalize (lg_sl ([.ref (ad 0), .ref (ad 5), .int x]) ++ List.replicate (4 - (lg_sl ([.ref (ad 0), .ref (ad 5), .int x])).length) Slot.unset).toArray = ls at hl ⊢
  have hl : lv_has ls 4 [(0, .ref (ad 0)), (1, .ref (ad 5)), (2, .int x)] := hl
  refine lv_iconst (v := 0) hx hb dX8_lay_0 (by decide) ?_
  refine lv_istore_n (lv' := [(3, .int 0), (0, .ref (ad 0)), (1, .ref (ad 5)), (2, .int x)]) hx hb dX8_lay_1 rfl hl (by decide) rfl (fun ls hl => ?_)
  have lp2 : ∀ (fu : Nat) (k : Nat) (_ : k ≤ 2) (_ : 2 - k < fu) (H : Heap) (locs : List Loc) (_ : va_P D xCl (mW dA (shM st) ad N (va_up σ 13 (lyF (σ 13) (σ 5) a k))) H) (_ : va_S (mAd ad N) ss.heap H locs) (ls : Array Slot) (_ : lv_has ls 4 [(3, .int (nI k)), (0, .ref (ad 0)), (1, .ref (ad 5)), (2, .int x)]), W pp l ee (headSpec (ws_ yX8_lay cX8_lay 4 (some .int)) ({ frames := 0, cells := 0, slots := 0, locals := 0 })).room ss mm ([.ref (ad 0), .ref (ad 5), .int x] : List Value).toArray below meth cd H locs 0 0 (MQ below (va_Qi (fun (r : Int32) (u : mMem) => r = nI (a + 2) ∧ u = lay1 σ 5 a 2) (mB D dA (shM st) ad N) (mAd ad N)) ([.ref (ad 0), .ref (ad 5), .int x] : List Value).toArray ss 0 0 (mAd ad N)) (F0 mm 2 ls []) := by
    intro fu
    induction fu with
    | zero => intro k hk hfu; exact absurd hfu (Nat.not_lt_zero _)
    | succ fu ih2 =>
      intro k hk hfu H locs hP hS ls hl
      refine lv_iload_n hx hb dX8_lay_2 rfl (lv_at hl 0 rfl) ?_
      refine lv_aload_n hx hb dX8_lay_3 rfl (lv_at hl 2 rfl) ?_
      refine mg_alen hx hb hE hP 5 (yl_n hA (by decide)) rfl dX8_lay_4 ?_
      refine lv_icmp_ge (tgt := 25) hx hb dX8_lay_5 (by decide) (fun c_1 => ?_) (fun c_1 => ?_)
      · have nc_1 : 2 ≤ k := mi_le rfl rfl (by omega) (by omega) c_1
        refine lv_iload_n hx hb dX8_lay_25 rfl (lv_at hl 3 rfl) ?_
        refine lv_aload_n hx hb dX8_lay_26 rfl (lv_at hl 2 rfl) ?_
        refine mg_alen hx hb hE hP 5 (yl_n hA (by decide)) rfl dX8_lay_27 ?_
        refine lv_iadd hx hb dX8_lay_28 ?_
        exact W.iret (v := (x + (nI 2))) hx hb hr (fun t ht hW => ⟨⟨_, _, rfl, ⟨mi_add hx0 rfl, by rw [lay1, show 2 = k by omega]⟩, mB.of ht hP⟩, hS.F ht⟩) hS.2.2 dX8_lay_29
      · have nc_1 : k < 2 := mi_nle rfl rfl (by omega) (by omega) c_1
        refine lv_aload_n hx hb dX8_lay_8 rfl (lv_at hl 1 rfl) ?_
        refine mg_ref hx hb hts in_X8 hown hE hP 0 (yl_n hA (by decide)) rfl rfl 22 rfl (by decide) (hts _ q786) (fun _ h9 => h9) dX8_lay_9 ?_
        refine lv_iload_n hx hb dX8_lay_12 rfl (lv_at hl 3 rfl) ?_
        refine lv_iload_n hx hb dX8_lay_13 rfl (lv_at hl 0 rfl) ?_
        refine lv_iadd hx hb dX8_lay_14 ?_
        refine lv_aload_n hx hb dX8_lay_15 rfl (lv_at hl 2 rfl) ?_
        refine lv_iload_n hx hb dX8_lay_16 rfl (lv_at hl 0 rfl) ?_
        refine mg_ild hx hb hE hP 5 (yl_n hA (by decide)) rfl k (by omega) rfl (by decide) dX8_lay_17 ?_
        refine lv_rwi (mv_row (by omega)) ?_
        refine mg_ist (v := σ 5 k) hx hb hE hD hP hS 13 (yl_n hA (by decide)) rfl (a + k) (by omega) (mi_add hx0 rfl) (by decide) dX8_lay_18 (fun H locs hP hS => ?_)
        refine lv_iinc (v := (nI (k + 1))) (lv' := [(3, .int (nI (k + 1))), (0, .ref (ad 0)), (1, .ref (ad 5)), (2, .int x)]) hx hb dX8_lay_19 hl (k := 0) rfl (mi_add rfl rfl) (by decide) rfl (fun ls hl => ?_)
        refine lv_goto (tgt := 2) hx hb dX8_lay_22 (by decide) ?_
        exact ih2  (k + 1) (by omega) (by omega) _ _ (m_eq (mup_up _ _ _ _ _) hP) hS ls (lv_sub hl [0, 1, 2, 3] rfl)
  exact lp2 (2 - 0 + 1) 0 (by omega) (by omega) _ _ (m_eq ((va_up_id rfl).symm) hP) hS ls (lv_sub hl [0, 1, 2, 3] rfl)
set_option maxHeartbeats 4000000 in
set_option maxRecDepth 100000 in
theorem mt_X8_gives_5 (l : Launch) (D : va_G) (dA : Nat → ClassId) (st : Nat) (hst : st = 1 ∨ st = 2) (ad : Nat → Nat) (N : Nat) (hA : yA ad N) (σ : mMem) (x : Int32) (a : Nat) (hx0 : x = nI a) (ha : a + 2 ≤ 270) : Met l yX8_gives (ws_ yX8_gives cX8_gives 4 (some .int)) ({ frames := 0, cells := 0, slots := 0, locals := 0 }) (va_Pc [.ref (ad 0), .int x, .ref (ad 5)] (mPre D dA (shM st) ad N σ)) (va_Qi (fun (r : Int32) (u : mMem) => r = nI (a + 2) ∧ u = giv1 σ 5 a 2) (mB D dA (shM st) ad N) (mAd ad N)) 0 0 (mAd ad N) := by
  refine Met.ofW (cc := cX8_gives) (maxL := 4) (ret := (some .int)) (by decide) rfl ?_
  intro pp ee ss mm args below meth cd s₁ B hml hv
  obtain ⟨rfl, hP, hE⟩ := hv
  have hx := B.exec
  have hb := B.bytes
  have hr := B.returns
  have hts := atoms_spec (ws := ws_ yX8_gives cX8_gives 4 (some .int)) B.pre
  have hts : ∀ w ∈ lw_all, w.before _ ss = true := fun w h => hts w (List.mem_cons_of_mem _ h)
  have hown : ss.vm.findClass RX8 = some mm.cls := findClass_of_methodNamed B.named
  have hlocks := B.notSynchronized
  have hD := hA.2.self
  have hS : va_S (mAd ad N) ss.heap ss.heap [] := va_S.rf
  have hNN := hA.1
  have hl := lv_entry ([.ref (ad 0), .int x, .ref (ad 5)]) (n := 4) (Nat.le_of_ble_eq_true rfl)
  rw [lg_entry_eq]
  generalize (lg_sl ([.ref (ad 0), .int x, .ref (ad 5)]) ++ List.replicate (4 - (lg_sl ([.ref (ad 0), .int x, .ref (ad 5)])).length) Slot.unset).toArray = ls at hl ⊢
  have hl : lv_has ls 4 [(0, .ref (ad 0)), (1, .int x), (2, .ref (ad 5))] := hl
  refine lv_iconst (v := 0) hx hb dX8_gives_0 (by decide) ?_
  refine lv_istore_n (lv' := [(3, .int 0), (0, .ref (ad 0)), (1, .int x), (2, .ref (ad 5))]) hx hb dX8_gives_1 rfl hl (by decide) rfl (fun ls hl => ?_)
  have lp2 : ∀ (fu : Nat) (k : Nat) (_ : k ≤ 2) (_ : 2 - k < fu) (H : Heap) (locs : List Loc) (_ : va_P D xCl (mW dA (shM st) ad N (va_up σ 5 (gvM (σ 5) (σ 13) a k))) H) (_ : va_S (mAd ad N) ss.heap H locs) (ls : Array Slot) (_ : lv_has ls 4 [(3, .int (nI k)), (0, .ref (ad 0)), (1, .int x), (2, .ref (ad 5))]), W pp l ee (headSpec (ws_ yX8_gives cX8_gives 4 (some .int)) ({ frames := 0, cells := 0, slots := 0, locals := 0 })).room ss mm ([.ref (ad 0), .int x, .ref (ad 5)] : List Value).toArray below meth cd H locs 0 0 (MQ below (va_Qi (fun (r : Int32) (u : mMem) => r = nI (a + 2) ∧ u = giv1 σ 5 a 2) (mB D dA (shM st) ad N) (mAd ad N)) ([.ref (ad 0), .int x, .ref (ad 5)] : List Value).toArray ss 0 0 (mAd ad N)) (F0 mm 2 ls []) := by
    intro fu
    induction fu with
    | zero => intro k hk hfu; exact absurd hfu (Nat.not_lt_zero _)
    | succ fu ih2 =>
      intro k hk hfu H locs hP hS ls hl
      refine lv_iload_n hx hb dX8_gives_2 rfl (lv_at hl 0 rfl) ?_
      refine lv_aload_n hx hb dX8_gives_3 rfl (lv_at hl 3 rfl) ?_
      refine mg_alen hx hb hE hP 5 (yl_n hA (by decide)) rfl dX8_gives_4 ?_
      refine lv_icmp_ge (tgt := 25) hx hb dX8_gives_5 (by decide) (fun c_1 => ?_) (fun c_1 => ?_)
      · have nc_1 : 2 ≤ k := mi_le rfl rfl (by omega) (by omega) c_1
        refine lv_iload_n hx hb dX8_gives_25 rfl (lv_at hl 2 rfl) ?_
        refine lv_aload_n hx hb dX8_gives_26 rfl (lv_at hl 3 rfl) ?_
        refine mg_alen hx hb hE hP 5 (yl_n hA (by decide)) rfl dX8_gives_27 ?_
        refine lv_iadd hx hb dX8_gives_28 ?_
        exact W.iret (v := (x + (nI 2))) hx hb hr (fun t ht hW => ⟨⟨_, _, rfl, ⟨mi_add hx0 rfl, by rw [giv1, show 2 = k by omega]⟩, mB.of ht hP⟩, hS.F ht⟩) hS.2.2 dX8_gives_29
      · have nc_1 : k < 2 := mi_nle rfl rfl (by omega) (by omega) c_1
        refine lv_aload_n hx hb dX8_gives_8 rfl (lv_at hl 3 rfl) ?_
        refine lv_iload_n hx hb dX8_gives_9 rfl (lv_at hl 0 rfl) ?_
        refine lv_aload_n hx hb dX8_gives_10 rfl (lv_at hl 1 rfl) ?_
        refine mg_ref hx hb hts in_X8 hown hE hP 0 (yl_n hA (by decide)) rfl rfl 22 rfl (by decide) (hts _ q786) (fun _ h9 => h9) dX8_gives_11 ?_
        refine lv_iload_n hx hb dX8_gives_14 rfl (lv_at hl 2 rfl) ?_
        refine lv_iload_n hx hb dX8_gives_15 rfl (lv_at hl 0 rfl) ?_
        refine lv_iadd hx hb dX8_gives_16 ?_
        refine mg_ild hx hb hE hP 13 (yl_n hA (by decide)) rfl (a + k) (by omega) (mi_add hx0 rfl) (by decide) dX8_gives_17 ?_
        refine lv_rwi (mv_row (by omega)) ?_
        refine mg_ist (v := σ 13 (a + k)) hx hb hE hD hP hS 5 (yl_n hA (by decide)) rfl k (by omega) rfl (by decide) dX8_gives_18 (fun H locs hP hS => ?_)
        refine lv_iinc (v := (nI (k + 1))) (lv' := [(3, .int (nI (k + 1))), (0, .ref (ad 0)), (1, .int x), (2, .ref (ad 5))]) hx hb dX8_gives_19 hl (k := 0) rfl (mi_add rfl rfl) (by decide) rfl (fun ls hl => ?_)
        refine lv_goto (tgt := 2) hx hb dX8_gives_22 (by decide) ?_
        exact ih2  (k + 1) (by omega) (by omega) _ _ (m_eq (mup_up _ _ _ _ _) hP) hS ls (lv_sub hl [0, 1, 2, 3] rfl)
  exact lp2 (2 - 0 + 1) 0 (by omega) (by omega) _ _ (m_eq ((va_up_id rfl).symm) hP) hS ls (lv_sub hl [0, 1, 2, 3] rfl)
set_option maxHeartbeats 4000000 in
set_option maxRecDepth 100000 in
theorem mt_X8_lay_6 (l : Launch) (D : va_G) (dA : Nat → ClassId) (st : Nat) (hst : st = 1 ∨ st = 2) (ad : Nat → Nat) (N : Nat) (hA : yA ad N) (σ : mMem) (x : Int32) (a : Nat) (hx0 : x = nI a) (ha : a + 8 ≤ 270) : Met l yX8_lay (ws_ yX8_lay cX8_lay 4 (some .int)) ({ frames := 0, cells := 0, slots := 0, locals := 0 }) (va_Pc [.ref (ad 0), .ref (ad 6), .int x] (mPre D dA (shM st) ad N σ)) (va_Qi (fun (r : Int32) (u : mMem) => r = nI (a + 8) ∧ u = lay1 σ 6 a 8) (mB D dA (shM st) ad N) (mAd ad N)) 0 0 (mAd ad N) := by
  refine Met.ofW (cc := cX8_lay) (maxL := 4) (ret := (some .int)) (by decide) rfl ?_
  intro pp ee ss mm args below meth cd s₁ B hml hv
  obtain ⟨rfl, hP, hE⟩ := hv
  have hx := B.exec
  have hb := B.bytes
  have hr := B.returns
  have hts := atoms_spec (ws := ws_ yX8_lay cX8_lay 4 (some .int)) B.pre
  have hts : ∀ w ∈ lw_all, w.before _ ss = true := fun w h => hts w (List.mem_cons_of_mem _ h)
  have hown : ss.vm.findClass RX8 = some mm.cls := findClass_of_methodNamed B.named
  have hlocks := B.notSynchronized
  have hD := hA.2.self
  have hS : va_S (mAd ad N) ss.heap ss.heap [] := va_S.rf
  have hNN := hA.1
  have hl := lv_entry ([.ref (ad 0), .ref (ad 6), .int x]) (n := 4) (Nat.le_of_ble_eq_true rfl)
  rw [lg_entry_eq]
  generalize (lg_sl ([.ref (ad 0), .ref (ad 6), .int x]) ++ List.replicate (4 - (lg_sl ([.ref (ad 0), .ref (ad 6), .int x])).length) Slot.unset).toArray = ls at hl ⊢
  have hl : lv_has ls 4 [(0, .ref (ad 0)), (1, .ref (ad 6)), (2, .int x)] := hl
  refine lv_iconst (v := 0) hx hb dX8_lay_0 (by decide) ?_
  refine lv_istore_n (lv' := [(3, .int 0), (0, .ref (ad 0)), (1, .ref (ad 6)), (2, .int x)]) hx hb dX8_lay_1 rfl hl (by decide) rfl (fun ls hl => ?_)
  have lp2 : ∀ (fu : Nat) (k : Nat) (_ : k ≤ 8) (_ : 8 - k < fu) (H : Heap) (locs : List Loc) (_ : va_P D xCl (mW dA (shM st) ad N (va_up σ 13 (lyF (σ 13) (σ 6) a k))) H) (_ : va_S (mAd ad N) ss.heap H locs) (ls : Array Slot) (_ : lv_has ls 4 [(3, .int (nI k)), (0, .ref (ad 0)), (1, .ref (ad 6)), (2, .int x)]), W pp l ee (headSpec (ws_ yX8_lay cX8_lay 4 (some .int)) ({ frames := 0, cells := 0, slots := 0, locals := 0 })).room ss mm ([.ref (ad 0), .ref (ad 6), .int x] : List Value).toArray below meth cd H locs 0 0 (MQ below (va_Qi (fun (r : Int32) (u : mMem) => r = nI (a + 8) ∧ u = lay1 σ 6 a 8) (mB D dA (shM st) ad N) (mAd ad N)) ([.ref (ad 0), .ref (ad 6), .int x] : List Value).toArray ss 0 0 (mAd ad N)) (F0 mm 2 ls []) := by
    intro fu
    induction fu with
    | zero => intro k hk hfu; exact absurd hfu (Nat.not_lt_zero _)
    | succ fu ih2 =>
      intro k hk hfu H locs hP hS ls hl
      refine lv_iload_n hx hb dX8_lay_2 rfl (lv_at hl 0 rfl) ?_
      refine lv_aload_n hx hb dX8_lay_3 rfl (lv_at hl 2 rfl) ?_
      refine mg_alen hx hb hE hP 6 (yl_n hA (by decide)) rfl dX8_lay_4 ?_
      refine lv_icmp_ge (tgt := 25) hx hb dX8_lay_5 (by decide) (fun c_1 => ?_) (fun c_1 => ?_)
      · have nc_1 : 8 ≤ k := mi_le rfl rfl (by omega) (by omega) c_1
        refine lv_iload_n hx hb dX8_lay_25 rfl (lv_at hl 3 rfl) ?_
        refine lv_aload_n hx hb dX8_lay_26 rfl (lv_at hl 2 rfl) ?_
        refine mg_alen hx hb hE hP 6 (yl_n hA (by decide)) rfl dX8_lay_27 ?_
        refine lv_iadd hx hb dX8_lay_28 ?_
        exact W.iret (v := (x + (nI 8))) hx hb hr (fun t ht hW => ⟨⟨_, _, rfl, ⟨mi_add hx0 rfl, by rw [lay1, show 8 = k by omega]⟩, mB.of ht hP⟩, hS.F ht⟩) hS.2.2 dX8_lay_29
      · have nc_1 : k < 8 := mi_nle rfl rfl (by omega) (by omega) c_1
        refine lv_aload_n hx hb dX8_lay_8 rfl (lv_at hl 1 rfl) ?_
        refine mg_ref hx hb hts in_X8 hown hE hP 0 (yl_n hA (by decide)) rfl rfl 22 rfl (by decide) (hts _ q786) (fun _ h9 => h9) dX8_lay_9 ?_
        refine lv_iload_n hx hb dX8_lay_12 rfl (lv_at hl 3 rfl) ?_
        refine lv_iload_n hx hb dX8_lay_13 rfl (lv_at hl 0 rfl) ?_
        refine lv_iadd hx hb dX8_lay_14 ?_
        refine lv_aload_n hx hb dX8_lay_15 rfl (lv_at hl 2 rfl) ?_
        refine lv_iload_n hx hb dX8_lay_16 rfl (lv_at hl 0 rfl) ?_
        refine mg_ild hx hb hE hP 6 (yl_n hA (by decide)) rfl k (by omega) rfl (by decide) dX8_lay_17 ?_
        refine lv_rwi (mv_row (by omega)) ?_
        refine mg_ist (v := σ 6 k) hx hb hE hD hP hS 13 (yl_n hA (by decide)) rfl (a + k) (by omega) (mi_add hx0 rfl) (by decide) dX8_lay_18 (fun H locs hP hS => ?_)
        refine lv_iinc (v := (nI (k + 1))) (lv' := [(3, .int (nI (k + 1))), (0, .ref (ad 0)), (1, .ref (ad 6)), (2, .int x)]) hx hb dX8_lay_19 hl (k := 0) rfl (mi_add rfl rfl) (by decide) rfl (fun ls hl => ?_)
        refine lv_goto (tgt := 2) hx hb dX8_lay_22 (by decide) ?_
        exact ih2  (k + 1) (by omega) (by omega) _ _ (m_eq (mup_up _ _ _ _ _) hP) hS ls (lv_sub hl [0, 1, 2, 3] rfl)
  exact lp2 (8 - 0 + 1) 0 (by omega) (by omega) _ _ (m_eq ((va_up_id rfl).symm) hP) hS ls (lv_sub hl [0, 1, 2, 3] rfl)
set_option maxHeartbeats 4000000 in
set_option maxRecDepth 100000 in
theorem mt_X8_gives_6 (l : Launch) (D : va_G) (dA : Nat → ClassId) (st : Nat) (hst : st = 1 ∨ st = 2) (ad : Nat → Nat) (N : Nat) (hA : yA ad N) (σ : mMem) (x : Int32) (a : Nat) (hx0 : x = nI a) (ha : a + 8 ≤ 270) : Met l yX8_gives (ws_ yX8_gives cX8_gives 4 (some .int)) ({ frames := 0, cells := 0, slots := 0, locals := 0 }) (va_Pc [.ref (ad 0), .int x, .ref (ad 6)] (mPre D dA (shM st) ad N σ)) (va_Qi (fun (r : Int32) (u : mMem) => r = nI (a + 8) ∧ u = giv1 σ 6 a 8) (mB D dA (shM st) ad N) (mAd ad N)) 0 0 (mAd ad N) := by
  refine Met.ofW (cc := cX8_gives) (maxL := 4) (ret := (some .int)) (by decide) rfl ?_
  intro pp ee ss mm args below meth cd s₁ B hml hv
  obtain ⟨rfl, hP, hE⟩ := hv
  have hx := B.exec
  have hb := B.bytes
  have hr := B.returns
  have hts := atoms_spec (ws := ws_ yX8_gives cX8_gives 4 (some .int)) B.pre
  have hts : ∀ w ∈ lw_all, w.before _ ss = true := fun w h => hts w (List.mem_cons_of_mem _ h)
  have hown : ss.vm.findClass RX8 = some mm.cls := findClass_of_methodNamed B.named
  have hlocks := B.notSynchronized
  have hD := hA.2.self
  have hS : va_S (mAd ad N) ss.heap ss.heap [] := va_S.rf
  have hNN := hA.1
  have hl := lv_entry ([.ref (ad 0), .int x, .ref (ad 6)]) (n := 4) (Nat.le_of_ble_eq_true rfl)
  rw [lg_entry_eq]
  generalize (lg_sl ([.ref (ad 0), .int x, .ref (ad 6)]) ++ List.replicate (4 - (lg_sl ([.ref (ad 0), .int x, .ref (ad 6)])).length) Slot.unset).toArray = ls at hl ⊢
  have hl : lv_has ls 4 [(0, .ref (ad 0)), (1, .int x), (2, .ref (ad 6))] := hl
  refine lv_iconst (v := 0) hx hb dX8_gives_0 (by decide) ?_
  refine lv_istore_n (lv' := [(3, .int 0), (0, .ref (ad 0)), (1, .int x), (2, .ref (ad 6))]) hx hb dX8_gives_1 rfl hl (by decide) rfl (fun ls hl => ?_)
  have lp2 : ∀ (fu : Nat) (k : Nat) (_ : k ≤ 8) (_ : 8 - k < fu) (H : Heap) (locs : List Loc) (_ : va_P D xCl (mW dA (shM st) ad N (va_up σ 6 (gvM (σ 6) (σ 13) a k))) H) (_ : va_S (mAd ad N) ss.heap H locs) (ls : Array Slot) (_ : lv_has ls 4 [(3, .int (nI k)), (0, .ref (ad 0)), (1, .int x), (2, .ref (ad 6))]), W pp l ee (headSpec (ws_ yX8_gives cX8_gives 4 (some .int)) ({ frames := 0, cells := 0, slots := 0, locals := 0 })).room ss mm ([.ref (ad 0), .int x, .ref (ad 6)] : List Value).toArray below meth cd H locs 0 0 (MQ below (va_Qi (fun (r : Int32) (u : mMem) => r = nI (a + 8) ∧ u = giv1 σ 6 a 8) (mB D dA (shM st) ad N) (mAd ad N)) ([.ref (ad 0), .int x, .ref (ad 6)] : List Value).toArray ss 0 0 (mAd ad N)) (F0 mm 2 ls []) := by
    intro fu
    induction fu with
    | zero => intro k hk hfu; exact absurd hfu (Nat.not_lt_zero _)
    | succ fu ih2 =>
      intro k hk hfu H locs hP hS ls hl
      refine lv_iload_n hx hb dX8_gives_2 rfl (lv_at hl 0 rfl) ?_
      refine lv_aload_n hx hb dX8_gives_3 rfl (lv_at hl 3 rfl) ?_
      refine mg_alen hx hb hE hP 6 (yl_n hA (by decide)) rfl dX8_gives_4 ?_
      refine lv_icmp_ge (tgt := 25) hx hb dX8_gives_5 (by decide) (fun c_1 => ?_) (fun c_1 => ?_)
      · have nc_1 : 8 ≤ k := mi_le rfl rfl (by omega) (by omega) c_1
        refine lv_iload_n hx hb dX8_gives_25 rfl (lv_at hl 2 rfl) ?_
        refine lv_aload_n hx hb dX8_gives_26 rfl (lv_at hl 3 rfl) ?_
        refine mg_alen hx hb hE hP 6 (yl_n hA (by decide)) rfl dX8_gives_27 ?_
        refine lv_iadd hx hb dX8_gives_28 ?_
        exact W.iret (v := (x + (nI 8))) hx hb hr (fun t ht hW => ⟨⟨_, _, rfl, ⟨mi_add hx0 rfl, by rw [giv1, show 8 = k by omega]⟩, mB.of ht hP⟩, hS.F ht⟩) hS.2.2 dX8_gives_29
      · have nc_1 : k < 8 := mi_nle rfl rfl (by omega) (by omega) c_1
        refine lv_aload_n hx hb dX8_gives_8 rfl (lv_at hl 3 rfl) ?_
        refine lv_iload_n hx hb dX8_gives_9 rfl (lv_at hl 0 rfl) ?_
        refine lv_aload_n hx hb dX8_gives_10 rfl (lv_at hl 1 rfl) ?_
        refine mg_ref hx hb hts in_X8 hown hE hP 0 (yl_n hA (by decide)) rfl rfl 22 rfl (by decide) (hts _ q786) (fun _ h9 => h9) dX8_gives_11 ?_
        refine lv_iload_n hx hb dX8_gives_14 rfl (lv_at hl 2 rfl) ?_
        refine lv_iload_n hx hb dX8_gives_15 rfl (lv_at hl 0 rfl) ?_
        refine lv_iadd hx hb dX8_gives_16 ?_
        refine mg_ild hx hb hE hP 13 (yl_n hA (by decide)) rfl (a + k) (by omega) (mi_add hx0 rfl) (by decide) dX8_gives_17 ?_
        refine lv_rwi (mv_row (by omega)) ?_
        refine mg_ist (v := σ 13 (a + k)) hx hb hE hD hP hS 6 (yl_n hA (by decide)) rfl k (by omega) rfl (by decide) dX8_gives_18 (fun H locs hP hS => ?_)
        refine lv_iinc (v := (nI (k + 1))) (lv' := [(3, .int (nI (k + 1))), (0, .ref (ad 0)), (1, .int x), (2, .ref (ad 6))]) hx hb dX8_gives_19 hl (k := 0) rfl (mi_add rfl rfl) (by decide) rfl (fun ls hl => ?_)
        refine lv_goto (tgt := 2) hx hb dX8_gives_22 (by decide) ?_
        exact ih2  (k + 1) (by omega) (by omega) _ _ (m_eq (mup_up _ _ _ _ _) hP) hS ls (lv_sub hl [0, 1, 2, 3] rfl)
  exact lp2 (8 - 0 + 1) 0 (by omega) (by omega) _ _ (m_eq ((va_up_id rfl).symm) hP) hS ls (lv_sub hl [0, 1, 2, 3] rfl)
set_option maxHeartbeats 4000000 in
set_option maxRecDepth 100000 in
theorem mt_X8_lay_7 (l : Launch) (D : va_G) (dA : Nat → ClassId) (st : Nat) (hst : st = 1 ∨ st = 2) (ad : Nat → Nat) (N : Nat) (hA : yA ad N) (σ : mMem) (x : Int32) (a : Nat) (hx0 : x = nI a) (ha : a + 8 ≤ 270) : Met l yX8_lay (ws_ yX8_lay cX8_lay 4 (some .int)) ({ frames := 0, cells := 0, slots := 0, locals := 0 }) (va_Pc [.ref (ad 0), .ref (ad 7), .int x] (mPre D dA (shM st) ad N σ)) (va_Qi (fun (r : Int32) (u : mMem) => r = nI (a + 8) ∧ u = lay1 σ 7 a 8) (mB D dA (shM st) ad N) (mAd ad N)) 0 0 (mAd ad N) := by
  refine Met.ofW (cc := cX8_lay) (maxL := 4) (ret := (some .int)) (by decide) rfl ?_
  intro pp ee ss mm args below meth cd s₁ B hml hv
  obtain ⟨rfl, hP, hE⟩ := hv
  have hx := B.exec
  have hb := B.bytes
  have hr := B.returns
  have hts := atoms_spec (ws := ws_ yX8_lay cX8_lay 4 (some .int)) B.pre
  have hts : ∀ w ∈ lw_all, w.before _ ss = true := fun w h => hts w (List.mem_cons_of_mem _ h)
  have hown : ss.vm.findClass RX8 = some mm.cls := findClass_of_methodNamed B.named
  have hlocks := B.notSynchronized
  have hD := hA.2.self
  have hS : va_S (mAd ad N) ss.heap ss.heap [] := va_S.rf
  have hNN := hA.1
  have hl := lv_entry ([.ref (ad 0), .ref (ad 7), .int x]) (n := 4) (Nat.le_of_ble_eq_true rfl)
  rw [lg_entry_eq]
  generalize (lg_sl ([.ref (ad 0), .ref (ad 7), .int x]) ++ List.replicate (4 - (lg_sl ([.ref (ad 0), .ref (ad 7), .int x])).length) Slot.unset).toArray = ls at hl ⊢
  have hl : lv_has ls 4 [(0, .ref (ad 0)), (1, .ref (ad 7)), (2, .int x)] := hl
  refine lv_iconst (v := 0) hx hb dX8_lay_0 (by decide) ?_
  refine lv_istore_n (lv' := [(3, .int 0), (0, .ref (ad 0)), (1, .ref (ad 7)), (2, .int x)]) hx hb dX8_lay_1 rfl hl (by decide) rfl (fun ls hl => ?_)
  have lp2 : ∀ (fu : Nat) (k : Nat) (_ : k ≤ 8) (_ : 8 - k < fu) (H : Heap) (locs : List Loc) (_ : va_P D xCl (mW dA (shM st) ad N (va_up σ 13 (lyF (σ 13) (σ 7) a k))) H) (_ : va_S (mAd ad N) ss.heap H locs) (ls : Array Slot) (_ : lv_has ls 4 [(3, .int (nI k)), (0, .ref (ad 0)), (1, .ref (ad 7)), (2, .int x)]), W pp l ee (headSpec (ws_ yX8_lay cX8_lay 4 (some .int)) ({ frames := 0, cells := 0, slots := 0, locals := 0 })).room ss mm ([.ref (ad 0), .ref (ad 7), .int x] : List Value).toArray below meth cd H locs 0 0 (MQ below (va_Qi (fun (r : Int32) (u : mMem) => r = nI (a + 8) ∧ u = lay1 σ 7 a 8) (mB D dA (shM st) ad N) (mAd ad N)) ([.ref (ad 0), .ref (ad 7), .int x] : List Value).toArray ss 0 0 (mAd ad N)) (F0 mm 2 ls []) := by
    intro fu
    induction fu with
    | zero => intro k hk hfu; exact absurd hfu (Nat.not_lt_zero _)
    | succ fu ih2 =>
      intro k hk hfu H locs hP hS ls hl
      refine lv_iload_n hx hb dX8_lay_2 rfl (lv_at hl 0 rfl) ?_
      refine lv_aload_n hx hb dX8_lay_3 rfl (lv_at hl 2 rfl) ?_
      refine mg_alen hx hb hE hP 7 (yl_n hA (by decide)) rfl dX8_lay_4 ?_
      refine lv_icmp_ge (tgt := 25) hx hb dX8_lay_5 (by decide) (fun c_1 => ?_) (fun c_1 => ?_)
      · have nc_1 : 8 ≤ k := mi_le rfl rfl (by omega) (by omega) c_1
        refine lv_iload_n hx hb dX8_lay_25 rfl (lv_at hl 3 rfl) ?_
        refine lv_aload_n hx hb dX8_lay_26 rfl (lv_at hl 2 rfl) ?_
        refine mg_alen hx hb hE hP 7 (yl_n hA (by decide)) rfl dX8_lay_27 ?_
        refine lv_iadd hx hb dX8_lay_28 ?_
        exact W.iret (v := (x + (nI 8))) hx hb hr (fun t ht hW => ⟨⟨_, _, rfl, ⟨mi_add hx0 rfl, by rw [lay1, show 8 = k by omega]⟩, mB.of ht hP⟩, hS.F ht⟩) hS.2.2 dX8_lay_29
      · have nc_1 : k < 8 := mi_nle rfl rfl (by omega) (by omega) c_1
        refine lv_aload_n hx hb dX8_lay_8 rfl (lv_at hl 1 rfl) ?_
        refine mg_ref hx hb hts in_X8 hown hE hP 0 (yl_n hA (by decide)) rfl rfl 22 rfl (by decide) (hts _ q786) (fun _ h9 => h9) dX8_lay_9 ?_
        refine lv_iload_n hx hb dX8_lay_12 rfl (lv_at hl 3 rfl) ?_
        refine lv_iload_n hx hb dX8_lay_13 rfl (lv_at hl 0 rfl) ?_
        refine lv_iadd hx hb dX8_lay_14 ?_
        refine lv_aload_n hx hb dX8_lay_15 rfl (lv_at hl 2 rfl) ?_
        refine lv_iload_n hx hb dX8_lay_16 rfl (lv_at hl 0 rfl) ?_
        refine mg_ild hx hb hE hP 7 (yl_n hA (by decide)) rfl k (by omega) rfl (by decide) dX8_lay_17 ?_
        refine lv_rwi (mv_row (by omega)) ?_
        refine mg_ist (v := σ 7 k) hx hb hE hD hP hS 13 (yl_n hA (by decide)) rfl (a + k) (by omega) (mi_add hx0 rfl) (by decide) dX8_lay_18 (fun H locs hP hS => ?_)
        refine lv_iinc (v := (nI (k + 1))) (lv' := [(3, .int (nI (k + 1))), (0, .ref (ad 0)), (1, .ref (ad 7)), (2, .int x)]) hx hb dX8_lay_19 hl (k := 0) rfl (mi_add rfl rfl) (by decide) rfl (fun ls hl => ?_)
        refine lv_goto (tgt := 2) hx hb dX8_lay_22 (by decide) ?_
        exact ih2  (k + 1) (by omega) (by omega) _ _ (m_eq (mup_up _ _ _ _ _) hP) hS ls (lv_sub hl [0, 1, 2, 3] rfl)
  exact lp2 (8 - 0 + 1) 0 (by omega) (by omega) _ _ (m_eq ((va_up_id rfl).symm) hP) hS ls (lv_sub hl [0, 1, 2, 3] rfl)
set_option maxHeartbeats 4000000 in
set_option maxRecDepth 100000 in
theorem mt_X8_gives_7 (l : Launch) (D : va_G) (dA : Nat → ClassId) (st : Nat) (hst : st = 1 ∨ st = 2) (ad : Nat → Nat) (N : Nat) (hA : yA ad N) (σ : mMem) (x : Int32) (a : Nat) (hx0 : x = nI a) (ha : a + 8 ≤ 270) : Met l yX8_gives (ws_ yX8_gives cX8_gives 4 (some .int)) ({ frames := 0, cells := 0, slots := 0, locals := 0 }) (va_Pc [.ref (ad 0), .int x, .ref (ad 7)] (mPre D dA (shM st) ad N σ)) (va_Qi (fun (r : Int32) (u : mMem) => r = nI (a + 8) ∧ u = giv1 σ 7 a 8) (mB D dA (shM st) ad N) (mAd ad N)) 0 0 (mAd ad N) := by
  refine Met.ofW (cc := cX8_gives) (maxL := 4) (ret := (some .int)) (by decide) rfl ?_
  intro pp ee ss mm args below meth cd s₁ B hml hv
  obtain ⟨rfl, hP, hE⟩ := hv
  have hx := B.exec
  have hb := B.bytes
  have hr := B.returns
  have hts := atoms_spec (ws := ws_ yX8_gives cX8_gives 4 (some .int)) B.pre
  have hts : ∀ w ∈ lw_all, w.before _ ss = true := fun w h => hts w (List.mem_cons_of_mem _ h)
  have hown : ss.vm.findClass RX8 = some mm.cls := findClass_of_methodNamed B.named
  have hlocks := B.notSynchronized
  have hD := hA.2.self
  have hS : va_S (mAd ad N) ss.heap ss.heap [] := va_S.rf
  have hNN := hA.1
  have hl := lv_entry ([.ref (ad 0), .int x, .ref (ad 7)]) (n := 4) (Nat.le_of_ble_eq_true rfl)
  rw [lg_entry_eq]
  generalize (lg_sl ([.ref (ad 0), .int x, .ref (ad 7)]) ++ List.replicate (4 - (lg_sl ([.ref (ad 0), .int x, .ref (ad 7)])).length) Slot.unset).toArray = ls at hl ⊢
  have hl : lv_has ls 4 [(0, .ref (ad 0)), (1, .int x), (2, .ref (ad 7))] := hl
  refine lv_iconst (v := 0) hx hb dX8_gives_0 (by decide) ?_
  refine lv_istore_n (lv' := [(3, .int 0), (0, .ref (ad 0)), (1, .int x), (2, .ref (ad 7))]) hx hb dX8_gives_1 rfl hl (by decide) rfl (fun ls hl => ?_)
  have lp2 : ∀ (fu : Nat) (k : Nat) (_ : k ≤ 8) (_ : 8 - k < fu) (H : Heap) (locs : List Loc) (_ : va_P D xCl (mW dA (shM st) ad N (va_up σ 7 (gvM (σ 7) (σ 13) a k))) H) (_ : va_S (mAd ad N) ss.heap H locs) (ls : Array Slot) (_ : lv_has ls 4 [(3, .int (nI k)), (0, .ref (ad 0)), (1, .int x), (2, .ref (ad 7))]), W pp l ee (headSpec (ws_ yX8_gives cX8_gives 4 (some .int)) ({ frames := 0, cells := 0, slots := 0, locals := 0 })).room ss mm ([.ref (ad 0), .int x, .ref (ad 7)] : List Value).toArray below meth cd H locs 0 0 (MQ below (va_Qi (fun (r : Int32) (u : mMem) => r = nI (a + 8) ∧ u = giv1 σ 7 a 8) (mB D dA (shM st) ad N) (mAd ad N)) ([.ref (ad 0), .int x, .ref (ad 7)] : List Value).toArray ss 0 0 (mAd ad N)) (F0 mm 2 ls []) := by
    intro fu
    induction fu with
    | zero => intro k hk hfu; exact absurd hfu (Nat.not_lt_zero _)
    | succ fu ih2 =>
      intro k hk hfu H locs hP hS ls hl
      refine lv_iload_n hx hb dX8_gives_2 rfl (lv_at hl 0 rfl) ?_
      refine lv_aload_n hx hb dX8_gives_3 rfl (lv_at hl 3 rfl) ?_
      refine mg_alen hx hb hE hP 7 (yl_n hA (by decide)) rfl dX8_gives_4 ?_
      refine lv_icmp_ge (tgt := 25) hx hb dX8_gives_5 (by decide) (fun c_1 => ?_) (fun c_1 => ?_)
      · have nc_1 : 8 ≤ k := mi_le rfl rfl (by omega) (by omega) c_1
        refine lv_iload_n hx hb dX8_gives_25 rfl (lv_at hl 2 rfl) ?_
        refine lv_aload_n hx hb dX8_gives_26 rfl (lv_at hl 3 rfl) ?_
        refine mg_alen hx hb hE hP 7 (yl_n hA (by decide)) rfl dX8_gives_27 ?_
        refine lv_iadd hx hb dX8_gives_28 ?_
        exact W.iret (v := (x + (nI 8))) hx hb hr (fun t ht hW => ⟨⟨_, _, rfl, ⟨mi_add hx0 rfl, by rw [giv1, show 8 = k by omega]⟩, mB.of ht hP⟩, hS.F ht⟩) hS.2.2 dX8_gives_29
      · have nc_1 : k < 8 := mi_nle rfl rfl (by omega) (by omega) c_1
        refine lv_aload_n hx hb dX8_gives_8 rfl (lv_at hl 3 rfl) ?_
        refine lv_iload_n hx hb dX8_gives_9 rfl (lv_at hl 0 rfl) ?_
        refine lv_aload_n hx hb dX8_gives_10 rfl (lv_at hl 1 rfl) ?_
        refine mg_ref hx hb hts in_X8 hown hE hP 0 (yl_n hA (by decide)) rfl rfl 22 rfl (by decide) (hts _ q786) (fun _ h9 => h9) dX8_gives_11 ?_
        refine lv_iload_n hx hb dX8_gives_14 rfl (lv_at hl 2 rfl) ?_
        refine lv_iload_n hx hb dX8_gives_15 rfl (lv_at hl 0 rfl) ?_
        refine lv_iadd hx hb dX8_gives_16 ?_
        refine mg_ild hx hb hE hP 13 (yl_n hA (by decide)) rfl (a + k) (by omega) (mi_add hx0 rfl) (by decide) dX8_gives_17 ?_
        refine lv_rwi (mv_row (by omega)) ?_
        refine mg_ist (v := σ 13 (a + k)) hx hb hE hD hP hS 7 (yl_n hA (by decide)) rfl k (by omega) rfl (by decide) dX8_gives_18 (fun H locs hP hS => ?_)
        refine lv_iinc (v := (nI (k + 1))) (lv' := [(3, .int (nI (k + 1))), (0, .ref (ad 0)), (1, .int x), (2, .ref (ad 7))]) hx hb dX8_gives_19 hl (k := 0) rfl (mi_add rfl rfl) (by decide) rfl (fun ls hl => ?_)
        refine lv_goto (tgt := 2) hx hb dX8_gives_22 (by decide) ?_
        exact ih2  (k + 1) (by omega) (by omega) _ _ (m_eq (mup_up _ _ _ _ _) hP) hS ls (lv_sub hl [0, 1, 2, 3] rfl)
  exact lp2 (8 - 0 + 1) 0 (by omega) (by omega) _ _ (m_eq ((va_up_id rfl).symm) hP) hS ls (lv_sub hl [0, 1, 2, 3] rfl)
set_option maxHeartbeats 4000000 in
set_option maxRecDepth 100000 in
theorem mt_X8_image (l : Launch) (D : va_G) (dA : Nat → ClassId) (st : Nat) (hst : st = 1 ∨ st = 2) (ad : Nat → Nat) (N : Nat) (hA : yA ad N) (σ : mMem)  : Met l yX8_image (ws_ yX8_image cX8_image 2 (some .int)) ({ frames := 1, cells := 0, slots := 0, locals := 23 }) (va_Pc [.ref (ad 0)] (mPre D dA (shM st) ad N σ)) (va_Qi (fun (r : Int32) (u : mMem) => r = 1 ∧ u = imgM σ) (mB D dA (shM st) ad N) (mAd ad N)) 0 0 (mAd ad N) := by
  refine Met.ofW (cc := cX8_image) (maxL := 2) (ret := (some .int)) (by decide) rfl ?_
  intro pp ee ss mm args below meth cd s₁ B hml hv
  obtain ⟨rfl, hP, hE⟩ := hv
  have hx := B.exec
  have hb := B.bytes
  have hr := B.returns
  have hts := atoms_spec (ws := ws_ yX8_image cX8_image 2 (some .int)) B.pre
  have hts : ∀ w ∈ lw_all, w.before _ ss = true := fun w h => hts w (List.mem_cons_of_mem _ h)
  have hown : ss.vm.findClass RX8 = some mm.cls := findClass_of_methodNamed B.named
  have hlocks := B.notSynchronized
  have hD := hA.2.self
  have hS : va_S (mAd ad N) ss.heap ss.heap [] := va_S.rf
  have hNN := hA.1
  have hl := lv_entry ([.ref (ad 0)]) (n := 2) (Nat.le_of_ble_eq_true rfl)
  rw [lg_entry_eq]
  generalize (lg_sl ([.ref (ad 0)]) ++ List.replicate (2 - (lg_sl ([.ref (ad 0)])).length) Slot.unset).toArray = ls at hl ⊢
  have hl : lv_has ls 2 [(0, .ref (ad 0))] := hl
  refine lv_aload_n hx hb dX8_image_0 rfl (lv_at hl 0 rfl) ?_
  refine lv_aload_n hx hb dX8_image_1 rfl (lv_at hl 0 rfl) ?_
  refine mg_ref hx hb hts in_X8 hown hE hP 0 (yl_n hA (by decide)) rfl rfl 1 rfl (by decide) (hts _ q765) (fun _ h9 => h9) dX8_image_2 ?_
  refine lv_iconst (v := 0) hx hb dX8_image_5 (by decide) ?_
  refine va_calli (va_runV (As := [.ref (ad 1), .int 0]) (rest := []) ⟨hx, hb, hml, hown, hts⟩ (mt_X8_lay_1 l D dA st hst ad N hA σ 0 0 rfl (by decide)) (cwV 2 hts (lw_V q1053 q1055 qs41 q55 q1056) rfl rfl rfl (by decide +kernel) ⟨Nat.le_of_ble_eq_true rfl, Nat.le_of_ble_eq_true rfl⟩) ⟨mPre.blind, m_recv hE hP 0 (yl_n hA (by decide)) rfl rfl, mPre.at hE hP⟩ rfl rfl hl.1 rfl (lv_room (Nat.le_of_ble_eq_true rfl)) dX8_image_6 ⟨Nat.le_of_ble_eq_true rfl, Nat.le_of_ble_eq_true rfl⟩) hS (fun q _ h => h) (fun q h => h) (fun r_1 ur_1 tr_1 H locs ht h0 hr_1 hB h1 h2 hS => ?_)
  obtain ⟨rfl, hu⟩ := hr_1
  have hP := m_eq hu (mB.get ht hB)
  refine lv_istore_n (lv' := [(1, .int (nI 200)), (0, .ref (ad 0))]) hx hb dX8_image_9 rfl hl (by decide) rfl (fun ls hl => ?_)
  refine lv_aload_n hx hb dX8_image_10 rfl (lv_at hl 1 rfl) ?_
  refine lv_aload_n hx hb dX8_image_11 rfl (lv_at hl 1 rfl) ?_
  refine mg_ref hx hb hts in_X8 hown hE hP 0 (yl_n hA (by decide)) rfl rfl 4 rfl (by decide) (hts _ q768) (fun _ h9 => h9) dX8_image_12 ?_
  refine lv_iload_n hx hb dX8_image_15 rfl (lv_at hl 0 rfl) ?_
  refine va_calli (va_runV (As := [.ref (ad 3), .int (nI 200)]) (rest := []) ⟨hx, hb, hml, hown, hts⟩ (mt_X8_lay_3 l D dA st hst ad N hA (lay1 σ 1 0 200) (nI 200) 200 rfl (by decide)) (cwV 2 hts (lw_V q1053 q1055 qs41 q55 q1056) rfl rfl rfl (by decide +kernel) ⟨Nat.le_of_ble_eq_true rfl, Nat.le_of_ble_eq_true rfl⟩) ⟨mPre.blind, m_recv hE hP 0 (yl_n hA (by decide)) rfl rfl, mPre.at hE hP⟩ rfl rfl hl.1 rfl (lv_room (Nat.le_of_ble_eq_true rfl)) dX8_image_16 ⟨Nat.le_of_ble_eq_true rfl, Nat.le_of_ble_eq_true rfl⟩) hS (fun q _ h => h) (fun q h => h) (fun r_2 ur_2 tr_2 H locs ht h0 hr_2 hB h1 h2 hS => ?_)
  obtain ⟨rfl, hu⟩ := hr_2
  have hP := m_eq hu (mB.get ht hB)
  refine lv_istore_n (lv' := [(1, .int (nI 225)), (0, .ref (ad 0))]) hx hb dX8_image_19 rfl hl (by decide) rfl (fun ls hl => ?_)
  refine lv_aload_n hx hb dX8_image_20 rfl (lv_at hl 1 rfl) ?_
  refine lv_aload_n hx hb dX8_image_21 rfl (lv_at hl 1 rfl) ?_
  refine mg_ref hx hb hts in_X8 hown hE hP 0 (yl_n hA (by decide)) rfl rfl 5 rfl (by decide) (hts _ q769) (fun _ h9 => h9) dX8_image_22 ?_
  refine lv_iload_n hx hb dX8_image_25 rfl (lv_at hl 0 rfl) ?_
  refine va_calli (va_runV (As := [.ref (ad 4), .int (nI 225)]) (rest := []) ⟨hx, hb, hml, hown, hts⟩ (mt_X8_lay_4 l D dA st hst ad N hA (lay1 (lay1 σ 1 0 200) 3 200 25) (nI 225) 225 rfl (by decide)) (cwV 2 hts (lw_V q1053 q1055 qs41 q55 q1056) rfl rfl rfl (by decide +kernel) ⟨Nat.le_of_ble_eq_true rfl, Nat.le_of_ble_eq_true rfl⟩) ⟨mPre.blind, m_recv hE hP 0 (yl_n hA (by decide)) rfl rfl, mPre.at hE hP⟩ rfl rfl hl.1 rfl (lv_room (Nat.le_of_ble_eq_true rfl)) dX8_image_26 ⟨Nat.le_of_ble_eq_true rfl, Nat.le_of_ble_eq_true rfl⟩) hS (fun q _ h => h) (fun q h => h) (fun r_3 ur_3 tr_3 H locs ht h0 hr_3 hB h1 h2 hS => ?_)
  obtain ⟨rfl, hu⟩ := hr_3
  have hP := m_eq hu (mB.get ht hB)
  refine lv_istore_n (lv' := [(1, .int (nI 237)), (0, .ref (ad 0))]) hx hb dX8_image_29 rfl hl (by decide) rfl (fun ls hl => ?_)
  refine lv_aload_n hx hb dX8_image_30 rfl (lv_at hl 1 rfl) ?_
  refine lv_aload_n hx hb dX8_image_31 rfl (lv_at hl 1 rfl) ?_
  refine mg_ref hx hb hts in_X8 hown hE hP 0 (yl_n hA (by decide)) rfl rfl 6 rfl (by decide) (hts _ q770) (fun _ h9 => h9) dX8_image_32 ?_
  refine lv_iload_n hx hb dX8_image_35 rfl (lv_at hl 0 rfl) ?_
  refine va_calli (va_runV (As := [.ref (ad 5), .int (nI 237)]) (rest := []) ⟨hx, hb, hml, hown, hts⟩ (mt_X8_lay_5 l D dA st hst ad N hA (lay1 (lay1 (lay1 σ 1 0 200) 3 200 25) 4 225 12) (nI 237) 237 rfl (by decide)) (cwV 2 hts (lw_V q1053 q1055 qs41 q55 q1056) rfl rfl rfl (by decide +kernel) ⟨Nat.le_of_ble_eq_true rfl, Nat.le_of_ble_eq_true rfl⟩) ⟨mPre.blind, m_recv hE hP 0 (yl_n hA (by decide)) rfl rfl, mPre.at hE hP⟩ rfl rfl hl.1 rfl (lv_room (Nat.le_of_ble_eq_true rfl)) dX8_image_36 ⟨Nat.le_of_ble_eq_true rfl, Nat.le_of_ble_eq_true rfl⟩) hS (fun q _ h => h) (fun q h => h) (fun r_4 ur_4 tr_4 H locs ht h0 hr_4 hB h1 h2 hS => ?_)
  obtain ⟨rfl, hu⟩ := hr_4
  have hP := m_eq hu (mB.get ht hB)
  refine lv_istore_n (lv' := [(1, .int (nI 239)), (0, .ref (ad 0))]) hx hb dX8_image_39 rfl hl (by decide) rfl (fun ls hl => ?_)
  refine lv_aload_n hx hb dX8_image_40 rfl (lv_at hl 1 rfl) ?_
  refine lv_aload_n hx hb dX8_image_41 rfl (lv_at hl 1 rfl) ?_
  refine mg_ref hx hb hts in_X8 hown hE hP 0 (yl_n hA (by decide)) rfl rfl 10 rfl (by decide) (hts _ q774) (fun _ h9 => h9) dX8_image_42 ?_
  refine lv_iload_n hx hb dX8_image_45 rfl (lv_at hl 0 rfl) ?_
  refine va_calli (va_runV (As := [.ref (ad 6), .int (nI 239)]) (rest := []) ⟨hx, hb, hml, hown, hts⟩ (mt_X8_lay_6 l D dA st hst ad N hA (lay1 (lay1 (lay1 (lay1 σ 1 0 200) 3 200 25) 4 225 12) 5 237 2) (nI 239) 239 rfl (by decide)) (cwV 2 hts (lw_V q1053 q1055 qs41 q55 q1056) rfl rfl rfl (by decide +kernel) ⟨Nat.le_of_ble_eq_true rfl, Nat.le_of_ble_eq_true rfl⟩) ⟨mPre.blind, m_recv hE hP 0 (yl_n hA (by decide)) rfl rfl, mPre.at hE hP⟩ rfl rfl hl.1 rfl (lv_room (Nat.le_of_ble_eq_true rfl)) dX8_image_46 ⟨Nat.le_of_ble_eq_true rfl, Nat.le_of_ble_eq_true rfl⟩) hS (fun q _ h => h) (fun q h => h) (fun r_5 ur_5 tr_5 H locs ht h0 hr_5 hB h1 h2 hS => ?_)
  obtain ⟨rfl, hu⟩ := hr_5
  have hP := m_eq hu (mB.get ht hB)
  refine lv_istore_n (lv' := [(1, .int (nI 247)), (0, .ref (ad 0))]) hx hb dX8_image_49 rfl hl (by decide) rfl (fun ls hl => ?_)
  refine lv_aload_n hx hb dX8_image_50 rfl (lv_at hl 1 rfl) ?_
  refine lv_aload_n hx hb dX8_image_51 rfl (lv_at hl 1 rfl) ?_
  refine mg_ref hx hb hts in_X8 hown hE hP 0 (yl_n hA (by decide)) rfl rfl 11 rfl (by decide) (hts _ q775) (fun _ h9 => h9) dX8_image_52 ?_
  refine lv_iload_n hx hb dX8_image_55 rfl (lv_at hl 0 rfl) ?_
  refine va_calli (va_runV (As := [.ref (ad 7), .int (nI 247)]) (rest := []) ⟨hx, hb, hml, hown, hts⟩ (mt_X8_lay_7 l D dA st hst ad N hA (lay1 (lay1 (lay1 (lay1 (lay1 σ 1 0 200) 3 200 25) 4 225 12) 5 237 2) 6 239 8) (nI 247) 247 rfl (by decide)) (cwV 2 hts (lw_V q1053 q1055 qs41 q55 q1056) rfl rfl rfl (by decide +kernel) ⟨Nat.le_of_ble_eq_true rfl, Nat.le_of_ble_eq_true rfl⟩) ⟨mPre.blind, m_recv hE hP 0 (yl_n hA (by decide)) rfl rfl, mPre.at hE hP⟩ rfl rfl hl.1 rfl (lv_room (Nat.le_of_ble_eq_true rfl)) dX8_image_56 ⟨Nat.le_of_ble_eq_true rfl, Nat.le_of_ble_eq_true rfl⟩) hS (fun q _ h => h) (fun q h => h) (fun r_6 ur_6 tr_6 H locs ht h0 hr_6 hB h1 h2 hS => ?_)
  obtain ⟨rfl, hu⟩ := hr_6
  have hP := m_eq hu (mB.get ht hB)
  refine lv_istore_n (lv' := [(1, .int (nI 255)), (0, .ref (ad 0))]) hx hb dX8_image_59 rfl hl (by decide) rfl (fun ls hl => ?_)
  refine lv_aload_n hx hb dX8_image_60 rfl (lv_at hl 1 rfl) ?_
  refine mg_ref hx hb hts in_X8 hown hE hP 0 (yl_n hA (by decide)) rfl rfl 22 rfl (by decide) (hts _ q786) (fun _ h9 => h9) dX8_image_61 ?_
  refine lv_iload_n hx hb dX8_image_64 rfl (lv_at hl 0 rfl) ?_
  refine lv_aload_n hx hb dX8_image_65 rfl (lv_at hl 1 rfl) ?_
  refine mg_get hx hb hts in_X8 hown hE hP 0 (yl_n hA (by decide)) rfl rfl 0 rfl (by decide) (hts _ q764) (fun _ h9 => h9) dX8_image_66 ?_
  refine mg_ist (v := (lay1 (lay1 (lay1 (lay1 (lay1 (lay1 σ 1 0 200) 3 200 25) 4 225 12) 5 237 2) 6 239 8) 7 247 8) 0 0) hx hb hE hD hP hS 13 (yl_n hA (by decide)) rfl 255 (by omega) rfl (by decide) dX8_image_69 (fun H locs hP hS => ?_)
  refine lv_aload_n hx hb dX8_image_70 rfl (lv_at hl 1 rfl) ?_
  refine mg_ref hx hb hts in_X8 hown hE hP 0 (yl_n hA (by decide)) rfl rfl 22 rfl (by decide) (hts _ q786) (fun _ h9 => h9) dX8_image_71 ?_
  refine lv_iload_n hx hb dX8_image_74 rfl (lv_at hl 0 rfl) ?_
  refine lv_iconst (v := 1) hx hb dX8_image_75 (by decide) ?_
  refine lv_iadd hx hb dX8_image_76 ?_
  refine lv_aload_n hx hb dX8_image_77 rfl (lv_at hl 1 rfl) ?_
  refine mg_get hx hb hts in_X8 hown hE hP 0 (yl_n hA (by decide)) rfl rfl 7 rfl (by decide) (hts _ q771) (fun _ h9 => h9) dX8_image_78 ?_
  refine lv_rwi (mup_ne1 (by omega)) ?_
  refine mg_ist (v := (lay1 (lay1 (lay1 (lay1 (lay1 (lay1 σ 1 0 200) 3 200 25) 4 225 12) 5 237 2) 6 239 8) 7 247 8) 0 7) hx hb hE hD hP hS 13 (yl_n hA (by decide)) rfl 256 (by omega) (mi_add rfl rfl) (by decide) dX8_image_81 (fun H locs hP hS => ?_)
  refine lv_aload_n hx hb dX8_image_82 rfl (lv_at hl 1 rfl) ?_
  refine mg_ref hx hb hts in_X8 hown hE hP 0 (yl_n hA (by decide)) rfl rfl 22 rfl (by decide) (hts _ q786) (fun _ h9 => h9) dX8_image_83 ?_
  refine lv_iload_n hx hb dX8_image_86 rfl (lv_at hl 0 rfl) ?_
  refine lv_iconst (v := 2) hx hb dX8_image_87 (by decide) ?_
  refine lv_iadd hx hb dX8_image_88 ?_
  refine lv_aload_n hx hb dX8_image_89 rfl (lv_at hl 1 rfl) ?_
  refine mg_get hx hb hts in_X8 hown hE hP 0 (yl_n hA (by decide)) rfl rfl 8 rfl (by decide) (hts _ q772) (fun _ h9 => h9) dX8_image_90 ?_
  refine lv_rwi ((mup_ne1 (by omega)).trans (mup_ne1 (by omega))) ?_
  refine mg_ist (v := (lay1 (lay1 (lay1 (lay1 (lay1 (lay1 σ 1 0 200) 3 200 25) 4 225 12) 5 237 2) 6 239 8) 7 247 8) 0 8) hx hb hE hD hP hS 13 (yl_n hA (by decide)) rfl 257 (by omega) (mi_add rfl rfl) (by decide) dX8_image_93 (fun H locs hP hS => ?_)
  refine lv_aload_n hx hb dX8_image_94 rfl (lv_at hl 1 rfl) ?_
  refine mg_ref hx hb hts in_X8 hown hE hP 0 (yl_n hA (by decide)) rfl rfl 22 rfl (by decide) (hts _ q786) (fun _ h9 => h9) dX8_image_95 ?_
  refine lv_iload_n hx hb dX8_image_98 rfl (lv_at hl 0 rfl) ?_
  refine lv_iconst (v := 3) hx hb dX8_image_99 (by decide) ?_
  refine lv_iadd hx hb dX8_image_100 ?_
  refine lv_aload_n hx hb dX8_image_101 rfl (lv_at hl 1 rfl) ?_
  refine mg_get hx hb hts in_X8 hown hE hP 0 (yl_n hA (by decide)) rfl rfl 9 rfl (by decide) (hts _ q773) (fun _ h9 => h9) dX8_image_102 ?_
  refine lv_rwi ((mup_ne1 (by omega)).trans ((mup_ne1 (by omega)).trans (mup_ne1 (by omega)))) ?_
  refine mg_ist (v := (lay1 (lay1 (lay1 (lay1 (lay1 (lay1 σ 1 0 200) 3 200 25) 4 225 12) 5 237 2) 6 239 8) 7 247 8) 0 9) hx hb hE hD hP hS 13 (yl_n hA (by decide)) rfl 258 (by omega) (mi_add rfl rfl) (by decide) dX8_image_105 (fun H locs hP hS => ?_)
  refine lv_aload_n hx hb dX8_image_106 rfl (lv_at hl 1 rfl) ?_
  refine lv_iconst (v := 1) hx hb dX8_image_107 (by decide) ?_
  refine mg_put (v := 1) (ty := .boolean) hx hb hts in_X8 tyX8 tyX8_ok nmX8 hown hE hD hP hS 0 (yl_n hA (by decide)) rfl rfl 23 rfl (by decide) (hts _ q787) (fun _ h9 => h9) rfl (by decide +kernel) rfl rfl dX8_image_108 (fun H locs hP hS => ?_)
  refine lv_iconst (v := 1) hx hb dX8_image_111 (by decide) ?_
  exact W.iret (v := 1) hx hb hr (fun t ht hW => ⟨⟨_, _, rfl, ⟨rfl, rfl⟩, mB.of ht hP⟩, hS.F ht⟩) hS.2.2 dX8_image_112
set_option maxHeartbeats 4000000 in
set_option maxRecDepth 100000 in
theorem mt_X8_restore (l : Launch) (D : va_G) (dA : Nat → ClassId) (st : Nat) (hst : st = 1 ∨ st = 2) (ad : Nat → Nat) (N : Nat) (hA : yA ad N) (σ : mMem)  : Met l yX8_restore (ws_ yX8_restore cX8_restore 2 (some .int)) ({ frames := 1, cells := 0, slots := 0, locals := 23 }) (va_Pc [.ref (ad 0)] (mPre D dA (shM st) ad N σ)) (va_Qi (fun (r : Int32) (u : mMem) => (if σ 0 23 = 0 then (r = -4 ∧ u = σ) else (r = 1 ∧ u = rstM σ))) (mB D dA (shM st) ad N) (mAd ad N)) 0 0 (mAd ad N) := by
  refine Met.ofW (cc := cX8_restore) (maxL := 2) (ret := (some .int)) (by decide) rfl ?_
  intro pp ee ss mm args below meth cd s₁ B hml hv
  obtain ⟨rfl, hP, hE⟩ := hv
  have hx := B.exec
  have hb := B.bytes
  have hr := B.returns
  have hts := atoms_spec (ws := ws_ yX8_restore cX8_restore 2 (some .int)) B.pre
  have hts : ∀ w ∈ lw_all, w.before _ ss = true := fun w h => hts w (List.mem_cons_of_mem _ h)
  have hown : ss.vm.findClass RX8 = some mm.cls := findClass_of_methodNamed B.named
  have hlocks := B.notSynchronized
  have hD := hA.2.self
  have hS : va_S (mAd ad N) ss.heap ss.heap [] := va_S.rf
  have hNN := hA.1
  have hl := lv_entry ([.ref (ad 0)]) (n := 2) (Nat.le_of_ble_eq_true rfl)
  rw [lg_entry_eq]
  generalize (lg_sl ([.ref (ad 0)]) ++ List.replicate (2 - (lg_sl ([.ref (ad 0)])).length) Slot.unset).toArray = ls at hl ⊢
  have hl : lv_has ls 2 [(0, .ref (ad 0))] := hl
  refine lv_aload_n hx hb dX8_restore_0 rfl (lv_at hl 0 rfl) ?_
  refine mg_get hx hb hts in_X8 hown hE hP 0 (yl_n hA (by decide)) rfl rfl 23 rfl (by decide) (hts _ q787) (fun _ h9 => h9) dX8_restore_1 ?_
  refine lv_if_ne (tgt := 10) hx hb dX8_restore_4 (by decide) (fun c_1 => ?_) (fun c_1 => ?_)
  · skip
    refine lv_aload_n hx hb dX8_restore_10 rfl (lv_at hl 0 rfl) ?_
    refine lv_iconst (v := 0) hx hb dX8_restore_11 (by decide) ?_
    refine lv_aload_n hx hb dX8_restore_12 rfl (lv_at hl 0 rfl) ?_
    refine mg_ref hx hb hts in_X8 hown hE hP 0 (yl_n hA (by decide)) rfl rfl 1 rfl (by decide) (hts _ q765) (fun _ h9 => h9) dX8_restore_13 ?_
    refine va_calli (va_runV (As := [.int 0, .ref (ad 1)]) (rest := []) ⟨hx, hb, hml, hown, hts⟩ (mt_X8_gives_1 l D dA st hst ad N hA σ 0 0 rfl (by decide)) (cwV 2 hts (lw_V q1061 q1063 qs42 q55 q1064) rfl rfl rfl (by decide +kernel) ⟨Nat.le_of_ble_eq_true rfl, Nat.le_of_ble_eq_true rfl⟩) ⟨mPre.blind, m_recv hE hP 0 (yl_n hA (by decide)) rfl rfl, mPre.at hE hP⟩ rfl rfl hl.1 rfl (lv_room (Nat.le_of_ble_eq_true rfl)) dX8_restore_16 ⟨Nat.le_of_ble_eq_true rfl, Nat.le_of_ble_eq_true rfl⟩) hS (fun q _ h => h) (fun q h => h) (fun r_2 ur_2 tr_2 H locs ht h0 hr_2 hB h1 h2 hS => ?_)
    obtain ⟨rfl, hu⟩ := hr_2
    have hP := m_eq hu (mB.get ht hB)
    refine lv_istore_n (lv' := [(1, .int (nI 200)), (0, .ref (ad 0))]) hx hb dX8_restore_19 rfl hl (by decide) rfl (fun ls hl => ?_)
    refine lv_aload_n hx hb dX8_restore_20 rfl (lv_at hl 1 rfl) ?_
    refine lv_iload_n hx hb dX8_restore_21 rfl (lv_at hl 0 rfl) ?_
    refine lv_aload_n hx hb dX8_restore_22 rfl (lv_at hl 1 rfl) ?_
    refine mg_ref hx hb hts in_X8 hown hE hP 0 (yl_n hA (by decide)) rfl rfl 4 rfl (by decide) (hts _ q768) (fun _ h9 => h9) dX8_restore_23 ?_
    refine va_calli (va_runV (As := [.int (nI 200), .ref (ad 3)]) (rest := []) ⟨hx, hb, hml, hown, hts⟩ (mt_X8_gives_3 l D dA st hst ad N hA (giv1 σ 1 0 200) (nI 200) 200 rfl (by decide)) (cwV 2 hts (lw_V q1061 q1063 qs42 q55 q1064) rfl rfl rfl (by decide +kernel) ⟨Nat.le_of_ble_eq_true rfl, Nat.le_of_ble_eq_true rfl⟩) ⟨mPre.blind, m_recv hE hP 0 (yl_n hA (by decide)) rfl rfl, mPre.at hE hP⟩ rfl rfl hl.1 rfl (lv_room (Nat.le_of_ble_eq_true rfl)) dX8_restore_26 ⟨Nat.le_of_ble_eq_true rfl, Nat.le_of_ble_eq_true rfl⟩) hS (fun q _ h => h) (fun q h => h) (fun r_3 ur_3 tr_3 H locs ht h0 hr_3 hB h1 h2 hS => ?_)
    obtain ⟨rfl, hu⟩ := hr_3
    have hP := m_eq hu (mB.get ht hB)
    refine lv_istore_n (lv' := [(1, .int (nI 225)), (0, .ref (ad 0))]) hx hb dX8_restore_29 rfl hl (by decide) rfl (fun ls hl => ?_)
    refine lv_aload_n hx hb dX8_restore_30 rfl (lv_at hl 1 rfl) ?_
    refine lv_iload_n hx hb dX8_restore_31 rfl (lv_at hl 0 rfl) ?_
    refine lv_aload_n hx hb dX8_restore_32 rfl (lv_at hl 1 rfl) ?_
    refine mg_ref hx hb hts in_X8 hown hE hP 0 (yl_n hA (by decide)) rfl rfl 5 rfl (by decide) (hts _ q769) (fun _ h9 => h9) dX8_restore_33 ?_
    refine va_calli (va_runV (As := [.int (nI 225), .ref (ad 4)]) (rest := []) ⟨hx, hb, hml, hown, hts⟩ (mt_X8_gives_4 l D dA st hst ad N hA (giv1 (giv1 σ 1 0 200) 3 200 25) (nI 225) 225 rfl (by decide)) (cwV 2 hts (lw_V q1061 q1063 qs42 q55 q1064) rfl rfl rfl (by decide +kernel) ⟨Nat.le_of_ble_eq_true rfl, Nat.le_of_ble_eq_true rfl⟩) ⟨mPre.blind, m_recv hE hP 0 (yl_n hA (by decide)) rfl rfl, mPre.at hE hP⟩ rfl rfl hl.1 rfl (lv_room (Nat.le_of_ble_eq_true rfl)) dX8_restore_36 ⟨Nat.le_of_ble_eq_true rfl, Nat.le_of_ble_eq_true rfl⟩) hS (fun q _ h => h) (fun q h => h) (fun r_4 ur_4 tr_4 H locs ht h0 hr_4 hB h1 h2 hS => ?_)
    obtain ⟨rfl, hu⟩ := hr_4
    have hP := m_eq hu (mB.get ht hB)
    refine lv_istore_n (lv' := [(1, .int (nI 237)), (0, .ref (ad 0))]) hx hb dX8_restore_39 rfl hl (by decide) rfl (fun ls hl => ?_)
    refine lv_aload_n hx hb dX8_restore_40 rfl (lv_at hl 1 rfl) ?_
    refine lv_iload_n hx hb dX8_restore_41 rfl (lv_at hl 0 rfl) ?_
    refine lv_aload_n hx hb dX8_restore_42 rfl (lv_at hl 1 rfl) ?_
    refine mg_ref hx hb hts in_X8 hown hE hP 0 (yl_n hA (by decide)) rfl rfl 6 rfl (by decide) (hts _ q770) (fun _ h9 => h9) dX8_restore_43 ?_
    refine va_calli (va_runV (As := [.int (nI 237), .ref (ad 5)]) (rest := []) ⟨hx, hb, hml, hown, hts⟩ (mt_X8_gives_5 l D dA st hst ad N hA (giv1 (giv1 (giv1 σ 1 0 200) 3 200 25) 4 225 12) (nI 237) 237 rfl (by decide)) (cwV 2 hts (lw_V q1061 q1063 qs42 q55 q1064) rfl rfl rfl (by decide +kernel) ⟨Nat.le_of_ble_eq_true rfl, Nat.le_of_ble_eq_true rfl⟩) ⟨mPre.blind, m_recv hE hP 0 (yl_n hA (by decide)) rfl rfl, mPre.at hE hP⟩ rfl rfl hl.1 rfl (lv_room (Nat.le_of_ble_eq_true rfl)) dX8_restore_46 ⟨Nat.le_of_ble_eq_true rfl, Nat.le_of_ble_eq_true rfl⟩) hS (fun q _ h => h) (fun q h => h) (fun r_5 ur_5 tr_5 H locs ht h0 hr_5 hB h1 h2 hS => ?_)
    obtain ⟨rfl, hu⟩ := hr_5
    have hP := m_eq hu (mB.get ht hB)
    refine lv_istore_n (lv' := [(1, .int (nI 239)), (0, .ref (ad 0))]) hx hb dX8_restore_49 rfl hl (by decide) rfl (fun ls hl => ?_)
    refine lv_aload_n hx hb dX8_restore_50 rfl (lv_at hl 1 rfl) ?_
    refine lv_iload_n hx hb dX8_restore_51 rfl (lv_at hl 0 rfl) ?_
    refine lv_aload_n hx hb dX8_restore_52 rfl (lv_at hl 1 rfl) ?_
    refine mg_ref hx hb hts in_X8 hown hE hP 0 (yl_n hA (by decide)) rfl rfl 10 rfl (by decide) (hts _ q774) (fun _ h9 => h9) dX8_restore_53 ?_
    refine va_calli (va_runV (As := [.int (nI 239), .ref (ad 6)]) (rest := []) ⟨hx, hb, hml, hown, hts⟩ (mt_X8_gives_6 l D dA st hst ad N hA (giv1 (giv1 (giv1 (giv1 σ 1 0 200) 3 200 25) 4 225 12) 5 237 2) (nI 239) 239 rfl (by decide)) (cwV 2 hts (lw_V q1061 q1063 qs42 q55 q1064) rfl rfl rfl (by decide +kernel) ⟨Nat.le_of_ble_eq_true rfl, Nat.le_of_ble_eq_true rfl⟩) ⟨mPre.blind, m_recv hE hP 0 (yl_n hA (by decide)) rfl rfl, mPre.at hE hP⟩ rfl rfl hl.1 rfl (lv_room (Nat.le_of_ble_eq_true rfl)) dX8_restore_56 ⟨Nat.le_of_ble_eq_true rfl, Nat.le_of_ble_eq_true rfl⟩) hS (fun q _ h => h) (fun q h => h) (fun r_6 ur_6 tr_6 H locs ht h0 hr_6 hB h1 h2 hS => ?_)
    obtain ⟨rfl, hu⟩ := hr_6
    have hP := m_eq hu (mB.get ht hB)
    refine lv_istore_n (lv' := [(1, .int (nI 247)), (0, .ref (ad 0))]) hx hb dX8_restore_59 rfl hl (by decide) rfl (fun ls hl => ?_)
    refine lv_aload_n hx hb dX8_restore_60 rfl (lv_at hl 1 rfl) ?_
    refine lv_iload_n hx hb dX8_restore_61 rfl (lv_at hl 0 rfl) ?_
    refine lv_aload_n hx hb dX8_restore_62 rfl (lv_at hl 1 rfl) ?_
    refine mg_ref hx hb hts in_X8 hown hE hP 0 (yl_n hA (by decide)) rfl rfl 11 rfl (by decide) (hts _ q775) (fun _ h9 => h9) dX8_restore_63 ?_
    refine va_calli (va_runV (As := [.int (nI 247), .ref (ad 7)]) (rest := []) ⟨hx, hb, hml, hown, hts⟩ (mt_X8_gives_7 l D dA st hst ad N hA (giv1 (giv1 (giv1 (giv1 (giv1 σ 1 0 200) 3 200 25) 4 225 12) 5 237 2) 6 239 8) (nI 247) 247 rfl (by decide)) (cwV 2 hts (lw_V q1061 q1063 qs42 q55 q1064) rfl rfl rfl (by decide +kernel) ⟨Nat.le_of_ble_eq_true rfl, Nat.le_of_ble_eq_true rfl⟩) ⟨mPre.blind, m_recv hE hP 0 (yl_n hA (by decide)) rfl rfl, mPre.at hE hP⟩ rfl rfl hl.1 rfl (lv_room (Nat.le_of_ble_eq_true rfl)) dX8_restore_66 ⟨Nat.le_of_ble_eq_true rfl, Nat.le_of_ble_eq_true rfl⟩) hS (fun q _ h => h) (fun q h => h) (fun r_7 ur_7 tr_7 H locs ht h0 hr_7 hB h1 h2 hS => ?_)
    obtain ⟨rfl, hu⟩ := hr_7
    have hP := m_eq hu (mB.get ht hB)
    refine lv_istore_n (lv' := [(1, .int (nI 255)), (0, .ref (ad 0))]) hx hb dX8_restore_69 rfl hl (by decide) rfl (fun ls hl => ?_)
    refine lv_aload_n hx hb dX8_restore_70 rfl (lv_at hl 1 rfl) ?_
    refine lv_aload_n hx hb dX8_restore_71 rfl (lv_at hl 1 rfl) ?_
    refine mg_ref hx hb hts in_X8 hown hE hP 0 (yl_n hA (by decide)) rfl rfl 22 rfl (by decide) (hts _ q786) (fun _ h9 => h9) dX8_restore_72 ?_
    refine lv_iload_n hx hb dX8_restore_75 rfl (lv_at hl 0 rfl) ?_
    refine mg_ild hx hb hE hP 13 (yl_n hA (by decide)) rfl 255 (by omega) rfl (by decide) dX8_restore_76 ?_
    refine mg_put (v := (giv1 (giv1 (giv1 (giv1 (giv1 (giv1 σ 1 0 200) 3 200 25) 4 225 12) 5 237 2) 6 239 8) 7 247 8) 13 255) (ty := .int) hx hb hts in_X8 tyX8 tyX8_ok nmX8 hown hE hD hP hS 0 (yl_n hA (by decide)) rfl rfl 0 rfl (by decide) (hts _ q764) (fun _ h9 => h9) rfl (by decide +kernel) rfl rfl dX8_restore_77 (fun H locs hP hS => ?_)
    refine lv_aload_n hx hb dX8_restore_80 rfl (lv_at hl 1 rfl) ?_
    refine lv_aload_n hx hb dX8_restore_81 rfl (lv_at hl 1 rfl) ?_
    refine mg_ref hx hb hts in_X8 hown hE hP 0 (yl_n hA (by decide)) rfl rfl 22 rfl (by decide) (hts _ q786) (fun _ h9 => h9) dX8_restore_82 ?_
    refine lv_iload_n hx hb dX8_restore_85 rfl (lv_at hl 0 rfl) ?_
    refine lv_iconst (v := 1) hx hb dX8_restore_86 (by decide) ?_
    refine lv_iadd hx hb dX8_restore_87 ?_
    refine mg_ild hx hb hE hP 13 (yl_n hA (by decide)) rfl 256 (by omega) (mi_add rfl rfl) (by decide) dX8_restore_88 ?_
    refine lv_rwi (mup_ne1 (by omega)) ?_
    refine mg_put (v := (giv1 (giv1 (giv1 (giv1 (giv1 (giv1 σ 1 0 200) 3 200 25) 4 225 12) 5 237 2) 6 239 8) 7 247 8) 13 256) (ty := .int) hx hb hts in_X8 tyX8 tyX8_ok nmX8 hown hE hD hP hS 0 (yl_n hA (by decide)) rfl rfl 7 rfl (by decide) (hts _ q771) (fun _ h9 => h9) rfl (by decide +kernel) rfl rfl dX8_restore_89 (fun H locs hP hS => ?_)
    refine lv_aload_n hx hb dX8_restore_92 rfl (lv_at hl 1 rfl) ?_
    refine lv_aload_n hx hb dX8_restore_93 rfl (lv_at hl 1 rfl) ?_
    refine mg_ref hx hb hts in_X8 hown hE hP 0 (yl_n hA (by decide)) rfl rfl 22 rfl (by decide) (hts _ q786) (fun _ h9 => h9) dX8_restore_94 ?_
    refine lv_iload_n hx hb dX8_restore_97 rfl (lv_at hl 0 rfl) ?_
    refine lv_iconst (v := 2) hx hb dX8_restore_98 (by decide) ?_
    refine lv_iadd hx hb dX8_restore_99 ?_
    refine mg_ild hx hb hE hP 13 (yl_n hA (by decide)) rfl 257 (by omega) (mi_add rfl rfl) (by decide) dX8_restore_100 ?_
    refine lv_rwi ((mup_ne1 (by omega)).trans (mup_ne1 (by omega))) ?_
    refine mg_put (v := (giv1 (giv1 (giv1 (giv1 (giv1 (giv1 σ 1 0 200) 3 200 25) 4 225 12) 5 237 2) 6 239 8) 7 247 8) 13 257) (ty := .int) hx hb hts in_X8 tyX8 tyX8_ok nmX8 hown hE hD hP hS 0 (yl_n hA (by decide)) rfl rfl 8 rfl (by decide) (hts _ q772) (fun _ h9 => h9) rfl (by decide +kernel) rfl rfl dX8_restore_101 (fun H locs hP hS => ?_)
    refine lv_aload_n hx hb dX8_restore_104 rfl (lv_at hl 1 rfl) ?_
    refine lv_aload_n hx hb dX8_restore_105 rfl (lv_at hl 1 rfl) ?_
    refine mg_ref hx hb hts in_X8 hown hE hP 0 (yl_n hA (by decide)) rfl rfl 22 rfl (by decide) (hts _ q786) (fun _ h9 => h9) dX8_restore_106 ?_
    refine lv_iload_n hx hb dX8_restore_109 rfl (lv_at hl 0 rfl) ?_
    refine lv_iconst (v := 3) hx hb dX8_restore_110 (by decide) ?_
    refine lv_iadd hx hb dX8_restore_111 ?_
    refine mg_ild hx hb hE hP 13 (yl_n hA (by decide)) rfl 258 (by omega) (mi_add rfl rfl) (by decide) dX8_restore_112 ?_
    refine lv_rwi ((mup_ne1 (by omega)).trans ((mup_ne1 (by omega)).trans (mup_ne1 (by omega)))) ?_
    refine mg_put (v := (giv1 (giv1 (giv1 (giv1 (giv1 (giv1 σ 1 0 200) 3 200 25) 4 225 12) 5 237 2) 6 239 8) 7 247 8) 13 258) (ty := .int) hx hb hts in_X8 tyX8 tyX8_ok nmX8 hown hE hD hP hS 0 (yl_n hA (by decide)) rfl rfl 9 rfl (by decide) (hts _ q773) (fun _ h9 => h9) rfl (by decide +kernel) rfl rfl dX8_restore_113 (fun H locs hP hS => ?_)
    refine lv_iconst (v := 1) hx hb dX8_restore_116 (by decide) ?_
    exact W.iret (v := 1) hx hb hr (fun t ht hW => ⟨⟨_, _, rfl, by dsimp only; rw [if_neg c_1]; exact ⟨rfl, rfl⟩, mB.of ht hP⟩, hS.F ht⟩) hS.2.2 dX8_restore_117
  · skip
    refine lv_bipush (v := (-4)) hx hb dX8_restore_7 (by decide) ?_
    exact W.iret (v := (-4)) hx hb hr (fun t ht hW => ⟨⟨_, _, rfl, by dsimp only; rw [if_pos c_1]; exact ⟨rfl, rfl⟩, mB.of ht hP⟩, hS.F ht⟩) hS.2.2 dX8_restore_9
set_option maxHeartbeats 4000000 in
set_option maxRecDepth 100000 in
theorem mt_X8_finds (l : Launch) (D : va_G) (dA : Nat → ClassId) (st : Nat) (hst : st = 1 ∨ st = 2) (ad : Nat → Nat) (N : Nat) (hA : yA ad N) (σ : mMem) (x : Int32) (k : Nat) (hx0 : x = nI k) (hk4 : k < 4) (a i n : Int32) : Met l yX8_finds (ws_ yX8_finds cX8_finds 5 (some .int)) ({ frames := 0, cells := 0, slots := 0, locals := 0 }) (va_Pc [.ref (ad 0), .int x, .int a, .int i, .int n] (mPre D dA (shM st) ad N σ)) (vp_Si (fun r : Int32 => r = fndM σ k a i n)) 0 0 (fun _ => False) := by
  refine Met.ofW (cc := cX8_finds) (maxL := 5) (ret := (some .int)) (by decide) rfl ?_
  intro pp ee ss mm args below meth cd s₁ B hml hv
  obtain ⟨rfl, hP, hE⟩ := hv
  have hx := B.exec
  have hb := B.bytes
  have hr := B.returns
  have hts := atoms_spec (ws := ws_ yX8_finds cX8_finds 5 (some .int)) B.pre
  have hts : ∀ w ∈ lw_all, w.before _ ss = true := fun w h => hts w (List.mem_cons_of_mem _ h)
  have hown : ss.vm.findClass RX8 = some mm.cls := findClass_of_methodNamed B.named
  have hlocks := B.notSynchronized
  have hNN := hA.1
  have hl := lv_entry ([.ref (ad 0), .int x, .int a, .int i, .int n]) (n := 5) (Nat.le_of_ble_eq_true rfl)
  rw [lg_entry_eq]
  generalize (lg_sl ([.ref (ad 0), .int x, .int a, .int i, .int n]) ++ List.replicate (5 - (lg_sl ([.ref (ad 0), .int x, .int a, .int i, .int n])).length) Slot.unset).toArray = ls at hl ⊢
  have hl : lv_has ls 5 [(0, .ref (ad 0)), (1, .int x), (2, .int a), (3, .int i), (4, .int n)] := hl
  refine lv_aload_n hx hb dX8_finds_0 rfl (lv_at hl 0 rfl) ?_
  refine mg_ref hx hb hts in_X8 hown hE hP 0 (yl_n hA (by decide)) rfl rfl 24 rfl (by decide) (hts _ q788) (fun _ h9 => h9) dX8_finds_1 ?_
  refine lv_iload_n hx hb dX8_finds_4 rfl (lv_at hl 1 rfl) ?_
  refine mg_ild hx hb hE hP 14 (yl_n hA (by decide)) rfl k (by omega) hx0 (by decide) dX8_finds_5 ?_
  refine lv_if_ge (tgt := 12) hx hb dX8_finds_6 (by decide) (fun c_1 => ?_) (fun c_1 => ?_)
  · skip
    refine lv_aload_n hx hb dX8_finds_12 rfl (lv_at hl 0 rfl) ?_
    refine mg_ref hx hb hts in_X8 hown hE hP 0 (yl_n hA (by decide)) rfl rfl 24 rfl (by decide) (hts _ q788) (fun _ h9 => h9) dX8_finds_13 ?_
    refine lv_iload_n hx hb dX8_finds_16 rfl (lv_at hl 1 rfl) ?_
    refine mg_ild hx hb hE hP 14 (yl_n hA (by decide)) rfl k (by omega) hx0 (by decide) dX8_finds_17 ?_
    refine lv_iload_n hx hb dX8_finds_18 rfl (lv_at hl 2 rfl) ?_
    refine lv_icmp_eq (tgt := 25) hx hb dX8_finds_19 (by decide) (fun c_2 => ?_) (fun c_2 => ?_)
    · skip
      refine lv_iload_n hx hb dX8_finds_25 rfl (lv_at hl 3 rfl) ?_
      refine lv_if_lt (tgt := 46) hx hb dX8_finds_26 (by decide) (fun c_3 => ?_) (fun c_3 => ?_)
      · skip
        refine lv_bipush (v := (-13)) hx hb dX8_finds_46 (by decide) ?_
        refine lv_goto (tgt := 52) hx hb dX8_finds_48 (by decide) ?_
        exact W.iret (v := (-13)) hx hb hr (fun t ht hW => ⟨_, rfl, by dsimp only; rw [fndM, if_pos c_1, if_pos c_2, if_pos c_3], ht⟩) (fun q hq => by cases hq) dX8_finds_52
      · skip
        refine lv_iload_n hx hb dX8_finds_29 rfl (lv_at hl 3 rfl) ?_
        refine lv_i2l (v := i.toInt64) hx hb dX8_finds_30 rfl ?_
        refine lv_iload hx hb dX8_finds_31 (lv_at hl 4 rfl) ?_
        refine lv_i2l (v := n.toInt64) hx hb dX8_finds_33 rfl ?_
        refine lv_ladd hx hb dX8_finds_34 ?_
        refine lv_aload_n hx hb dX8_finds_35 rfl (lv_at hl 0 rfl) ?_
        refine mg_ref hx hb hts in_X8 hown hE hP 0 (yl_n hA (by decide)) rfl rfl 25 rfl (by decide) (hts _ q789) (fun _ h9 => h9) dX8_finds_36 ?_
        refine lv_iload_n hx hb dX8_finds_39 rfl (lv_at hl 1 rfl) ?_
        refine mg_ild hx hb hE hP 15 (yl_n hA (by decide)) rfl k (by omega) hx0 (by decide) dX8_finds_40 ?_
        refine lv_i2l (v := (σ 15 k).toInt64) hx hb dX8_finds_41 rfl ?_
        refine mg_lcmp hx hb dX8_finds_42 ?_
        refine lv_if_le (tgt := 51) hx hb dX8_finds_43 (by decide) (fun c_4 => ?_) (fun c_4 => ?_)
        · have c_4 : ¬ (σ 15 k).toInt64 < (i.toInt64 + n.toInt64) := lc_le c_4
          refine lv_iconst (v := 0) hx hb dX8_finds_51 (by decide) ?_
          exact W.iret (v := 0) hx hb hr (fun t ht hW => ⟨_, rfl, by dsimp only; rw [fndM, if_pos c_1, if_pos c_2, if_neg c_3, if_neg c_4], ht⟩) (fun q hq => by cases hq) dX8_finds_52
        · have c_4 : (σ 15 k).toInt64 < (i.toInt64 + n.toInt64) := lc_nle c_4
          refine lv_bipush (v := (-13)) hx hb dX8_finds_46 (by decide) ?_
          refine lv_goto (tgt := 52) hx hb dX8_finds_48 (by decide) ?_
          exact W.iret (v := (-13)) hx hb hr (fun t ht hW => ⟨_, rfl, by dsimp only; rw [fndM, if_pos c_1, if_pos c_2, if_neg c_3, if_pos c_4], ht⟩) (fun q hq => by cases hq) dX8_finds_52
    · skip
      refine lv_bipush (v := (-12)) hx hb dX8_finds_22 (by decide) ?_
      exact W.iret (v := (-12)) hx hb hr (fun t ht hW => ⟨_, rfl, by dsimp only; rw [fndM, if_pos c_1, if_neg c_2], ht⟩) (fun q hq => by cases hq) dX8_finds_24
  · skip
    refine lv_bipush (v := (-11)) hx hb dX8_finds_9 (by decide) ?_
    exact W.iret (v := (-11)) hx hb hr (fun t ht hW => ⟨_, rfl, by dsimp only; rw [fndM, if_neg c_1], ht⟩) (fun q hq => by cases hq) dX8_finds_11
set_option maxHeartbeats 4000000 in
set_option maxRecDepth 100000 in
theorem mt_X8_sheet (l : Launch) (D : va_G) (dA : Nat → ClassId) (st : Nat) (hst : st = 1 ∨ st = 2) (ad : Nat → Nat) (N : Nat) (hA : yA ad N) (σ : mMem) (b a n : Int32) : Met l yX8_sheet (ws_ yX8_sheet cX8_sheet 5 (some .int)) ({ frames := 2, cells := 0, slots := 0, locals := 45 }) (va_Pc [.ref (ad 0), .int b, .int a, .int n] (mPre D dA (shM st) ad N σ)) (va_Qi (fun (r : Int32) (u : mMem) => (if ik b 4 then (if ik a 3 then (if n ≤ 24 then (if 0 ≤ n then (r = n ∧ u = zrF (mup (mup σ 14 (tn b) a) 15 (tn b) n) 16 (24 * tn b) 24) else (r = -14 ∧ u = σ)) else (r = -1 ∧ u = σ)) else (r = -1 ∧ u = σ)) else (r = -1 ∧ u = σ))) (mB D dA (shM st) ad N) (mAd ad N)) 0 0 (mAd ad N) := by
  refine Met.ofW (cc := cX8_sheet) (maxL := 5) (ret := (some .int)) (by decide) rfl ?_
  intro pp ee ss mm args below meth cd s₁ B hml hv
  obtain ⟨rfl, hP, hE⟩ := hv
  have hx := B.exec
  have hb := B.bytes
  have hr := B.returns
  have hts := atoms_spec (ws := ws_ yX8_sheet cX8_sheet 5 (some .int)) B.pre
  have hts : ∀ w ∈ lw_all, w.before _ ss = true := fun w h => hts w (List.mem_cons_of_mem _ h)
  have hown : ss.vm.findClass RX8 = some mm.cls := findClass_of_methodNamed B.named
  have hlocks := B.notSynchronized
  have hD := hA.2.self
  have hS : va_S (mAd ad N) ss.heap ss.heap [] := va_S.rf
  have hNN := hA.1
  have hl := lv_entry ([.ref (ad 0), .int b, .int a, .int n]) (n := 5) (Nat.le_of_ble_eq_true rfl)
  rw [lg_entry_eq]
  generalize (lg_sl ([.ref (ad 0), .int b, .int a, .int n]) ++ List.replicate (5 - (lg_sl ([.ref (ad 0), .int b, .int a, .int n])).length) Slot.unset).toArray = ls at hl ⊢
  have hl : lv_has ls 5 [(0, .ref (ad 0)), (1, .int b), (2, .int a), (3, .int n)] := hl
  refine lv_iload_n hx hb dX8_sheet_0 rfl (lv_at hl 1 rfl) ?_
  refine vp_callSi (W.runS (As := [.int b]) (rest := []) ⟨hx, hb, hml, hown, hts⟩ (mt_X8_isSheet l b) (va_cwS 1 hts (lw_S q1069 q1070 q55 q1071) rfl rfl rfl (by decide +kernel) ⟨Nat.le_of_ble_eq_true rfl, Nat.le_of_ble_eq_true rfl⟩) ⟨fun _ _ _ _ h => h, fun _ _ _ => ⟨rfl, trivial⟩⟩ rfl rfl hl.1 rfl (lv_room (Nat.le_of_ble_eq_true rfl)) dX8_sheet_1 ⟨Nat.le_of_ble_eq_true rfl, Nat.le_of_ble_eq_true rfl⟩) (fun r_1 hr_1 => ?_)
  subst hr_1
  refine lv_if_eq (tgt := 20) hx hb dX8_sheet_4 (by decide) (fun c_2 => ?_) (fun c_2 => ?_)
  · have c_2 : ¬ (ik b 4) := bi_f c_2
    refine lv_iconst (v := (-1)) hx hb dX8_sheet_20 (by decide) ?_
    exact W.iret (v := (-1)) hx hb hr (fun t ht hW => ⟨⟨_, _, rfl, by dsimp only; rw [if_neg c_2]; exact ⟨rfl, rfl⟩, mB.of ht hP⟩, hS.F ht⟩) hS.2.2 dX8_sheet_21
  · have c_2 : ik b 4 := bi_t c_2
    have c_2_lt := ik_lt c_2
    refine lv_iload_n hx hb dX8_sheet_7 rfl (lv_at hl 2 rfl) ?_
    refine vp_callSi (W.runS (As := [.int a]) (rest := []) ⟨hx, hb, hml, hown, hts⟩ (mt_X8_isLane l a) (va_cwS 1 hts (lw_S q1072 q1073 q55 q1074) rfl rfl rfl (by decide +kernel) ⟨Nat.le_of_ble_eq_true rfl, Nat.le_of_ble_eq_true rfl⟩) ⟨fun _ _ _ _ h => h, fun _ _ _ => ⟨rfl, trivial⟩⟩ rfl rfl hl.1 rfl (lv_room (Nat.le_of_ble_eq_true rfl)) dX8_sheet_8 ⟨Nat.le_of_ble_eq_true rfl, Nat.le_of_ble_eq_true rfl⟩) (fun r_3 hr_3 => ?_)
    subst hr_3
    refine lv_if_eq (tgt := 20) hx hb dX8_sheet_11 (by decide) (fun c_4 => ?_) (fun c_4 => ?_)
    · have c_4 : ¬ (ik a 3) := bi_f c_4
      refine lv_iconst (v := (-1)) hx hb dX8_sheet_20 (by decide) ?_
      exact W.iret (v := (-1)) hx hb hr (fun t ht hW => ⟨⟨_, _, rfl, by dsimp only; rw [if_pos c_2, if_neg c_4]; exact ⟨rfl, rfl⟩, mB.of ht hP⟩, hS.F ht⟩) hS.2.2 dX8_sheet_21
    · have c_4 : ik a 3 := bi_t c_4
      have c_4_lt := ik_lt c_4
      refine lv_iload_n hx hb dX8_sheet_14 rfl (lv_at hl 3 rfl) ?_
      refine lv_bipush (v := 24) hx hb dX8_sheet_15 (by decide) ?_
      refine lv_icmp_le (tgt := 22) hx hb dX8_sheet_17 (by decide) (fun c_5 => ?_) (fun c_5 => ?_)
      · skip
        refine lv_iload_n hx hb dX8_sheet_22 rfl (lv_at hl 3 rfl) ?_
        refine lv_if_ge (tgt := 29) hx hb dX8_sheet_23 (by decide) (fun c_6 => ?_) (fun c_6 => ?_)
        · skip
          refine lv_aload_n hx hb dX8_sheet_29 rfl (lv_at hl 0 rfl) ?_
          refine mg_ref hx hb hts in_X8 hown hE hP 0 (yl_n hA (by decide)) rfl rfl 24 rfl (by decide) (hts _ q788) (fun _ h9 => h9) dX8_sheet_30 ?_
          refine lv_iload_n hx hb dX8_sheet_33 rfl (lv_at hl 1 rfl) ?_
          refine lv_iload_n hx hb dX8_sheet_34 rfl (lv_at hl 2 rfl) ?_
          refine mg_ist (v := a) hx hb hE hD hP hS 14 (yl_n hA (by decide)) rfl (tn b) (by omega) (ik_eq c_2) (by decide) dX8_sheet_35 (fun H locs hP hS => ?_)
          refine lv_aload_n hx hb dX8_sheet_36 rfl (lv_at hl 0 rfl) ?_
          refine mg_ref hx hb hts in_X8 hown hE hP 0 (yl_n hA (by decide)) rfl rfl 25 rfl (by decide) (hts _ q789) (fun _ h9 => h9) dX8_sheet_37 ?_
          refine lv_iload_n hx hb dX8_sheet_40 rfl (lv_at hl 1 rfl) ?_
          refine lv_iload_n hx hb dX8_sheet_41 rfl (lv_at hl 3 rfl) ?_
          refine mg_ist (v := n) hx hb hE hD hP hS 15 (yl_n hA (by decide)) rfl (tn b) (by omega) (ik_eq c_2) (by decide) dX8_sheet_42 (fun H locs hP hS => ?_)
          refine lv_iconst (v := 0) hx hb dX8_sheet_43 (by decide) ?_
          refine lv_istore (lv' := [(4, .int 0), (0, .ref (ad 0)), (1, .int b), (2, .int a), (3, .int n)]) hx hb dX8_sheet_44 hl (by decide) rfl (fun ls hl => ?_)
          have lp46 : ∀ (fu : Nat) (k : Nat) (_ : k ≤ 24) (_ : 24 - k < fu) (H : Heap) (locs : List Loc) (_ : va_P D xCl (mW dA (shM st) ad N (zrF (mup (mup σ 14 (tn b) a) 15 (tn b) n) 16 (24 * tn b) k)) H) (_ : va_S (mAd ad N) ss.heap H locs) (ls : Array Slot) (_ : lv_has ls 5 [(4, .int (nI k)), (0, .ref (ad 0)), (1, .int b), (2, .int a), (3, .int n)]), W pp l ee (headSpec (ws_ yX8_sheet cX8_sheet 5 (some .int)) ({ frames := 2, cells := 0, slots := 0, locals := 45 })).room ss mm ([.ref (ad 0), .int b, .int a, .int n] : List Value).toArray below meth cd H locs 0 0 (MQ below (va_Qi (fun (r : Int32) (u : mMem) => (if ik b 4 then (if ik a 3 then (if n ≤ 24 then (if 0 ≤ n then (r = n ∧ u = zrF (mup (mup σ 14 (tn b) a) 15 (tn b) n) 16 (24 * tn b) 24) else (r = -14 ∧ u = σ)) else (r = -1 ∧ u = σ)) else (r = -1 ∧ u = σ)) else (r = -1 ∧ u = σ))) (mB D dA (shM st) ad N) (mAd ad N)) ([.ref (ad 0), .int b, .int a, .int n] : List Value).toArray ss 0 0 (mAd ad N)) (F0 mm 46 ls []) := by
            intro fu
            induction fu with
            | zero => intro k hk hfu; exact absurd hfu (Nat.not_lt_zero _)
            | succ fu ih46 =>
              intro k hk hfu H locs hP hS ls hl
              refine lv_iload hx hb dX8_sheet_46 (lv_at hl 0 rfl) ?_
              refine lv_bipush (v := 24) hx hb dX8_sheet_48 (by decide) ?_
              refine lv_icmp_ge (tgt := 72) hx hb dX8_sheet_50 (by decide) (fun c_7 => ?_) (fun c_7 => ?_)
              · have nc_7 : 24 ≤ k := mi_le rfl rfl (by omega) (by omega) c_7
                refine lv_iload_n hx hb dX8_sheet_72 rfl (lv_at hl 4 rfl) ?_
                exact W.iret (v := n) hx hb hr (fun t ht hW => ⟨⟨_, _, rfl, by dsimp only; rw [if_pos c_2, if_pos c_4, if_pos c_5, if_pos c_6]; exact ⟨rfl, by rw [show k = 24 by omega]⟩, mB.of ht hP⟩, hS.F ht⟩) hS.2.2 dX8_sheet_73
              · have nc_7 : k < 24 := mi_nle rfl rfl (by omega) (by omega) c_7
                refine lv_aload_n hx hb dX8_sheet_53 rfl (lv_at hl 1 rfl) ?_
                refine mg_ref hx hb hts in_X8 hown hE hP 0 (yl_n hA (by decide)) rfl rfl 26 rfl (by decide) (hts _ q790) (fun _ h9 => h9) dX8_sheet_54 ?_
                refine lv_bipush (v := 24) hx hb dX8_sheet_57 (by decide) ?_
                refine lv_iload_n hx hb dX8_sheet_59 rfl (lv_at hl 2 rfl) ?_
                refine lv_imul hx hb dX8_sheet_60 ?_
                refine lv_iload hx hb dX8_sheet_61 (lv_at hl 0 rfl) ?_
                refine lv_iadd hx hb dX8_sheet_63 ?_
                refine lv_iconst (v := 0) hx hb dX8_sheet_64 (by decide) ?_
                refine mg_ist (v := 0) hx hb hE hD hP hS 16 (yl_n hA (by decide)) rfl (24 * (tn b) + k) (by omega) (mi_add (mi_mul rfl (ik_eq c_2)) rfl) (by decide) dX8_sheet_65 (fun H locs hP hS => ?_)
                refine lv_iinc (v := (nI (k + 1))) (lv' := [(4, .int (nI (k + 1))), (0, .ref (ad 0)), (1, .int b), (2, .int a), (3, .int n)]) hx hb dX8_sheet_66 hl (k := 0) rfl (mi_add rfl rfl) (by decide) rfl (fun ls hl => ?_)
                refine lv_goto (tgt := 46) hx hb dX8_sheet_69 (by decide) ?_
                exact ih46  (k + 1) (by omega) (by omega) _ _ (m_eq (rfl) hP) hS ls (lv_sub hl [0, 1, 2, 3, 4] rfl)
          exact lp46 (24 - 0 + 1) 0 (by omega) (by omega) _ _ (m_eq (rfl) hP) hS ls (lv_sub hl [0, 1, 2, 3, 4] rfl)
        · skip
          refine lv_bipush (v := (-14)) hx hb dX8_sheet_26 (by decide) ?_
          exact W.iret (v := (-14)) hx hb hr (fun t ht hW => ⟨⟨_, _, rfl, by dsimp only; rw [if_pos c_2, if_pos c_4, if_pos c_5, if_neg c_6]; exact ⟨rfl, rfl⟩, mB.of ht hP⟩, hS.F ht⟩) hS.2.2 dX8_sheet_28
      · skip
        refine lv_iconst (v := (-1)) hx hb dX8_sheet_20 (by decide) ?_
        exact W.iret (v := (-1)) hx hb hr (fun t ht hW => ⟨⟨_, _, rfl, by dsimp only; rw [if_pos c_2, if_pos c_4, if_neg c_5]; exact ⟨rfl, rfl⟩, mB.of ht hP⟩, hS.F ht⟩) hS.2.2 dX8_sheet_21
set_option maxHeartbeats 4000000 in
set_option maxRecDepth 100000 in
theorem mt_X8_drop (l : Launch) (D : va_G) (dA : Nat → ClassId) (st : Nat) (hst : st = 1 ∨ st = 2) (ad : Nat → Nat) (N : Nat) (hA : yA ad N) (σ : mMem) (b : Int32) : Met l yX8_drop (ws_ yX8_drop cX8_drop 2 (some .int)) ({ frames := 2, cells := 0, slots := 0, locals := 45 }) (va_Pc [.ref (ad 0), .int b] (mPre D dA (shM st) ad N σ)) (va_Qi (fun (r : Int32) (u : mMem) => (if ik b 4 then (if 0 ≤ σ 14 (tn b) then (r = σ 15 (tn b) ∧ u = mup σ 14 (tn b) (-1)) else (r = -11 ∧ u = σ)) else (r = -1 ∧ u = σ))) (mB D dA (shM st) ad N) (mAd ad N)) 0 0 (mAd ad N) := by
  refine Met.ofW (cc := cX8_drop) (maxL := 2) (ret := (some .int)) (by decide) rfl ?_
  intro pp ee ss mm args below meth cd s₁ B hml hv
  obtain ⟨rfl, hP, hE⟩ := hv
  have hx := B.exec
  have hb := B.bytes
  have hr := B.returns
  have hts := atoms_spec (ws := ws_ yX8_drop cX8_drop 2 (some .int)) B.pre
  have hts : ∀ w ∈ lw_all, w.before _ ss = true := fun w h => hts w (List.mem_cons_of_mem _ h)
  have hown : ss.vm.findClass RX8 = some mm.cls := findClass_of_methodNamed B.named
  have hlocks := B.notSynchronized
  have hD := hA.2.self
  have hS : va_S (mAd ad N) ss.heap ss.heap [] := va_S.rf
  have hNN := hA.1
  have hl := lv_entry ([.ref (ad 0), .int b]) (n := 2) (Nat.le_of_ble_eq_true rfl)
  rw [lg_entry_eq]
  generalize (lg_sl ([.ref (ad 0), .int b]) ++ List.replicate (2 - (lg_sl ([.ref (ad 0), .int b])).length) Slot.unset).toArray = ls at hl ⊢
  have hl : lv_has ls 2 [(0, .ref (ad 0)), (1, .int b)] := hl
  refine lv_iload_n hx hb dX8_drop_0 rfl (lv_at hl 1 rfl) ?_
  refine vp_callSi (W.runS (As := [.int b]) (rest := []) ⟨hx, hb, hml, hown, hts⟩ (mt_X8_isSheet l b) (va_cwS 1 hts (lw_S q1069 q1070 q55 q1071) rfl rfl rfl (by decide +kernel) ⟨Nat.le_of_ble_eq_true rfl, Nat.le_of_ble_eq_true rfl⟩) ⟨fun _ _ _ _ h => h, fun _ _ _ => ⟨rfl, trivial⟩⟩ rfl rfl hl.1 rfl (lv_room (Nat.le_of_ble_eq_true rfl)) dX8_drop_1 ⟨Nat.le_of_ble_eq_true rfl, Nat.le_of_ble_eq_true rfl⟩) (fun r_1 hr_1 => ?_)
  subst hr_1
  refine lv_if_ne (tgt := 9) hx hb dX8_drop_4 (by decide) (fun c_2 => ?_) (fun c_2 => ?_)
  · have c_2 : ik b 4 := bi_t c_2
    have c_2_lt := ik_lt c_2
    refine lv_aload_n hx hb dX8_drop_9 rfl (lv_at hl 0 rfl) ?_
    refine mg_ref hx hb hts in_X8 hown hE hP 0 (yl_n hA (by decide)) rfl rfl 24 rfl (by decide) (hts _ q788) (fun _ h9 => h9) dX8_drop_10 ?_
    refine lv_iload_n hx hb dX8_drop_13 rfl (lv_at hl 1 rfl) ?_
    refine mg_ild hx hb hE hP 14 (yl_n hA (by decide)) rfl (tn b) (by omega) (ik_eq c_2) (by decide) dX8_drop_14 ?_
    refine lv_if_ge (tgt := 21) hx hb dX8_drop_15 (by decide) (fun c_3 => ?_) (fun c_3 => ?_)
    · skip
      refine lv_aload_n hx hb dX8_drop_21 rfl (lv_at hl 0 rfl) ?_
      refine mg_ref hx hb hts in_X8 hown hE hP 0 (yl_n hA (by decide)) rfl rfl 24 rfl (by decide) (hts _ q788) (fun _ h9 => h9) dX8_drop_22 ?_
      refine lv_iload_n hx hb dX8_drop_25 rfl (lv_at hl 1 rfl) ?_
      refine lv_iconst (v := (-1)) hx hb dX8_drop_26 (by decide) ?_
      refine mg_ist (v := (-1)) hx hb hE hD hP hS 14 (yl_n hA (by decide)) rfl (tn b) (by omega) (ik_eq c_2) (by decide) dX8_drop_27 (fun H locs hP hS => ?_)
      refine lv_aload_n hx hb dX8_drop_28 rfl (lv_at hl 0 rfl) ?_
      refine mg_ref hx hb hts in_X8 hown hE hP 0 (yl_n hA (by decide)) rfl rfl 25 rfl (by decide) (hts _ q789) (fun _ h9 => h9) dX8_drop_29 ?_
      refine lv_iload_n hx hb dX8_drop_32 rfl (lv_at hl 1 rfl) ?_
      refine mg_ild hx hb hE hP 15 (yl_n hA (by decide)) rfl (tn b) (by omega) (ik_eq c_2) (by decide) dX8_drop_33 ?_
      refine lv_rwi (mup_ne1 (by omega)) ?_
      exact W.iret (v := σ 15 (tn b)) hx hb hr (fun t ht hW => ⟨⟨_, _, rfl, by dsimp only; rw [if_pos c_2, if_pos c_3]; exact ⟨rfl, rfl⟩, mB.of ht hP⟩, hS.F ht⟩) hS.2.2 dX8_drop_34
    · skip
      refine lv_bipush (v := (-11)) hx hb dX8_drop_18 (by decide) ?_
      exact W.iret (v := (-11)) hx hb hr (fun t ht hW => ⟨⟨_, _, rfl, by dsimp only; rw [if_pos c_2, if_neg c_3]; exact ⟨rfl, rfl⟩, mB.of ht hP⟩, hS.F ht⟩) hS.2.2 dX8_drop_20
  · have c_2 : ¬ (ik b 4) := bi_f c_2
    refine lv_iconst (v := (-1)) hx hb dX8_drop_7 (by decide) ?_
    exact W.iret (v := (-1)) hx hb hr (fun t ht hW => ⟨⟨_, _, rfl, by dsimp only; rw [if_neg c_2]; exact ⟨rfl, rfl⟩, mB.of ht hP⟩, hS.F ht⟩) hS.2.2 dX8_drop_8
set_option maxHeartbeats 4000000 in
set_option maxRecDepth 100000 in
theorem mt_X8_item (l : Launch) (D : va_G) (dA : Nat → ClassId) (st : Nat) (hst : st = 1 ∨ st = 2) (ad : Nat → Nat) (N : Nat) (hA : yA ad N) (σ : mMem) (b a i v : Int32) (sz : Nat → Nat) (hsz : ∀ k, k < 4 → σ 15 k = nI (sz k) ∧ sz k ≤ 24) : Met l yX8_item (ws_ yX8_item cX8_item 6 (some .int)) ({ frames := 2, cells := 0, slots := 0, locals := 45 }) (va_Pc [.ref (ad 0), .int b, .int a, .int i, .int v] (mPre D dA (shM st) ad N σ)) (va_Qi (fun (r : Int32) (u : mMem) => (if ik b 4 then (if ik a 3 then (if 0 ≤ fndM σ (tn b) a i 1 then (r = 1 ∧ u = mup σ 16 (24 * tn b + tn i) (if tn a = 0 then v.toInt8.toInt32 else (if tn a = 1 then v.toInt16.toInt32 else v))) else (r = fndM σ (tn b) a i 1 ∧ u = σ)) else (r = -1 ∧ u = σ)) else (r = -1 ∧ u = σ))) (mB D dA (shM st) ad N) (mAd ad N)) 0 0 (mAd ad N) := by
  refine Met.ofW (cc := cX8_item) (maxL := 6) (ret := (some .int)) (by decide) rfl ?_
  intro pp ee ss mm args below meth cd s₁ B hml hv
  obtain ⟨rfl, hP, hE⟩ := hv
  have hx := B.exec
  have hb := B.bytes
  have hr := B.returns
  have hts := atoms_spec (ws := ws_ yX8_item cX8_item 6 (some .int)) B.pre
  have hts : ∀ w ∈ lw_all, w.before _ ss = true := fun w h => hts w (List.mem_cons_of_mem _ h)
  have hown : ss.vm.findClass RX8 = some mm.cls := findClass_of_methodNamed B.named
  have hlocks := B.notSynchronized
  have hD := hA.2.self
  have hS : va_S (mAd ad N) ss.heap ss.heap [] := va_S.rf
  have hNN := hA.1
  have hl := lv_entry ([.ref (ad 0), .int b, .int a, .int i, .int v]) (n := 6) (Nat.le_of_ble_eq_true rfl)
  rw [lg_entry_eq]
  generalize (lg_sl ([.ref (ad 0), .int b, .int a, .int i, .int v]) ++ List.replicate (6 - (lg_sl ([.ref (ad 0), .int b, .int a, .int i, .int v])).length) Slot.unset).toArray = ls at hl ⊢
  have hl : lv_has ls 6 [(0, .ref (ad 0)), (1, .int b), (2, .int a), (3, .int i), (4, .int v)] := hl
  refine lv_iload_n hx hb dX8_item_0 rfl (lv_at hl 1 rfl) ?_
  refine vp_callSi (W.runS (As := [.int b]) (rest := []) ⟨hx, hb, hml, hown, hts⟩ (mt_X8_isSheet l b) (va_cwS 1 hts (lw_S q1069 q1070 q55 q1071) rfl rfl rfl (by decide +kernel) ⟨Nat.le_of_ble_eq_true rfl, Nat.le_of_ble_eq_true rfl⟩) ⟨fun _ _ _ _ h => h, fun _ _ _ => ⟨rfl, trivial⟩⟩ rfl rfl hl.1 rfl (lv_room (Nat.le_of_ble_eq_true rfl)) dX8_item_1 ⟨Nat.le_of_ble_eq_true rfl, Nat.le_of_ble_eq_true rfl⟩) (fun r_1 hr_1 => ?_)
  subst hr_1
  refine lv_if_eq (tgt := 14) hx hb dX8_item_4 (by decide) (fun c_2 => ?_) (fun c_2 => ?_)
  · have c_2 : ¬ (ik b 4) := bi_f c_2
    refine lv_iconst (v := (-1)) hx hb dX8_item_14 (by decide) ?_
    exact W.iret (v := (-1)) hx hb hr (fun t ht hW => ⟨⟨_, _, rfl, by dsimp only; rw [if_neg c_2]; exact ⟨rfl, rfl⟩, mB.of ht hP⟩, hS.F ht⟩) hS.2.2 dX8_item_15
  · have c_2 : ik b 4 := bi_t c_2
    have c_2_lt := ik_lt c_2
    refine lv_iload_n hx hb dX8_item_7 rfl (lv_at hl 2 rfl) ?_
    refine vp_callSi (W.runS (As := [.int a]) (rest := []) ⟨hx, hb, hml, hown, hts⟩ (mt_X8_isLane l a) (va_cwS 1 hts (lw_S q1072 q1073 q55 q1074) rfl rfl rfl (by decide +kernel) ⟨Nat.le_of_ble_eq_true rfl, Nat.le_of_ble_eq_true rfl⟩) ⟨fun _ _ _ _ h => h, fun _ _ _ => ⟨rfl, trivial⟩⟩ rfl rfl hl.1 rfl (lv_room (Nat.le_of_ble_eq_true rfl)) dX8_item_8 ⟨Nat.le_of_ble_eq_true rfl, Nat.le_of_ble_eq_true rfl⟩) (fun r_3 hr_3 => ?_)
    subst hr_3
    refine lv_if_ne (tgt := 16) hx hb dX8_item_11 (by decide) (fun c_4 => ?_) (fun c_4 => ?_)
    · have c_4 : ik a 3 := bi_t c_4
      have c_4_lt := ik_lt c_4
      refine lv_aload_n hx hb dX8_item_16 rfl (lv_at hl 0 rfl) ?_
      refine lv_iload_n hx hb dX8_item_17 rfl (lv_at hl 1 rfl) ?_
      refine lv_iload_n hx hb dX8_item_18 rfl (lv_at hl 2 rfl) ?_
      refine lv_iload_n hx hb dX8_item_19 rfl (lv_at hl 3 rfl) ?_
      refine lv_iconst (v := 1) hx hb dX8_item_20 (by decide) ?_
      refine vp_callSi (W.runV (As := [.int b, .int a, .int i, .int 1]) (rest := []) ⟨hx, hb, hml, hown, hts⟩ (mt_X8_finds l D dA st hst ad N hA σ b (tn b) (ik_eq c_2) (by omega) a i 1) (cwV 4 hts (lw_V q1075 q1077 qs43 q55 q1078) rfl rfl rfl (by decide +kernel) ⟨Nat.le_of_ble_eq_true rfl, Nat.le_of_ble_eq_true rfl⟩) ⟨mPre.blind, m_recv hE hP 0 (yl_n hA (by decide)) rfl rfl, mPre.at hE hP⟩ rfl rfl hl.1 rfl (lv_room (Nat.le_of_ble_eq_true rfl)) dX8_item_21 ⟨Nat.le_of_ble_eq_true rfl, Nat.le_of_ble_eq_true rfl⟩) (fun r_5 hr_5 => ?_)
      subst hr_5
      refine lv_istore (lv' := [(5, .int (fndM σ (tn b) a i 1)), (0, .ref (ad 0)), (1, .int b), (2, .int a), (3, .int i), (4, .int v)]) hx hb dX8_item_24 hl (by decide) rfl (fun ls hl => ?_)
      refine lv_iload hx hb dX8_item_26 (lv_at hl 0 rfl) ?_
      refine lv_if_ge (tgt := 34) hx hb dX8_item_28 (by decide) (fun c_6 => ?_) (fun c_6 => ?_)
      · skip
        have hz := hsz (tn b) c_2_lt
        have hi0 := fnd_1 hz.1 hz.2 c_6
        have hi0_lt := ik_lt hi0
        have hz2 := hz.2
        refine lv_aload_n hx hb dX8_item_34 rfl (lv_at hl 1 rfl) ?_
        refine mg_ref hx hb hts in_X8 hown hE hP 0 (yl_n hA (by decide)) rfl rfl 26 rfl (by decide) (hts _ q790) (fun _ h9 => h9) dX8_item_35 ?_
        refine lv_bipush (v := 24) hx hb dX8_item_38 (by decide) ?_
        refine lv_iload_n hx hb dX8_item_40 rfl (lv_at hl 2 rfl) ?_
        refine lv_imul hx hb dX8_item_41 ?_
        refine lv_iload_n hx hb dX8_item_42 rfl (lv_at hl 4 rfl) ?_
        refine lv_iadd hx hb dX8_item_43 ?_
        refine lv_iload_n hx hb dX8_item_44 rfl (lv_at hl 3 rfl) ?_
        refine lv_if_ne (tgt := 54) hx hb dX8_item_45 (by decide) (fun c_7 => ?_) (fun c_7 => ?_)
        · have nc_7 : tn a ≠ 0 := mi_ne (ik_eq c_4) rfl (by omega) (by omega) c_7
          refine lv_iload_n hx hb dX8_item_54 rfl (lv_at hl 3 rfl) ?_
          refine lv_iconst (v := 1) hx hb dX8_item_55 (by decide) ?_
          refine lv_icmp_ne (tgt := 65) hx hb dX8_item_56 (by decide) (fun c_8 => ?_) (fun c_8 => ?_)
          · have nc_8 : tn a ≠ 1 := mi_ne (ik_eq c_4) rfl (by omega) (by omega) c_8
            refine lv_iload hx hb dX8_item_65 (lv_at hl 5 rfl) ?_
            refine mg_ist (v := v) hx hb hE hD hP hS 16 (yl_n hA (by decide)) rfl (24 * (tn b) + tn i) (by omega) (mi_add (mi_mul rfl (ik_eq c_2)) (ik_eq hi0)) (by decide) dX8_item_67 (fun H locs hP hS => ?_)
            refine lv_iconst (v := 1) hx hb dX8_item_68 (by decide) ?_
            exact W.iret (v := 1) hx hb hr (fun t ht hW => ⟨⟨_, _, rfl, by dsimp only; rw [if_pos c_2, if_pos c_4, if_pos c_6, if_neg nc_7, if_neg nc_8]; exact ⟨rfl, rfl⟩, mB.of ht hP⟩, hS.F ht⟩) hS.2.2 dX8_item_69
          · have nc_8 : tn a = 1 := mi_eq (ik_eq c_4) rfl (by omega) (by omega) c_8
            refine lv_iload hx hb dX8_item_59 (lv_at hl 5 rfl) ?_
            refine lv_i2s (v := v.toInt16.toInt32) hx hb dX8_item_61 rfl ?_
            refine lv_goto (tgt := 67) hx hb dX8_item_62 (by decide) ?_
            refine mg_ist (v := v.toInt16.toInt32) hx hb hE hD hP hS 16 (yl_n hA (by decide)) rfl (24 * (tn b) + tn i) (by omega) (mi_add (mi_mul rfl (ik_eq c_2)) (ik_eq hi0)) (by decide) dX8_item_67 (fun H locs hP hS => ?_)
            refine lv_iconst (v := 1) hx hb dX8_item_68 (by decide) ?_
            exact W.iret (v := 1) hx hb hr (fun t ht hW => ⟨⟨_, _, rfl, by dsimp only; rw [if_pos c_2, if_pos c_4, if_pos c_6, if_neg nc_7, if_pos nc_8]; exact ⟨rfl, rfl⟩, mB.of ht hP⟩, hS.F ht⟩) hS.2.2 dX8_item_69
        · have nc_7 : tn a = 0 := mi_eq (ik_eq c_4) rfl (by omega) (by omega) c_7
          refine lv_iload hx hb dX8_item_48 (lv_at hl 5 rfl) ?_
          refine lv_i2b (v := v.toInt8.toInt32) hx hb dX8_item_50 rfl ?_
          refine lv_goto (tgt := 67) hx hb dX8_item_51 (by decide) ?_
          refine mg_ist (v := v.toInt8.toInt32) hx hb hE hD hP hS 16 (yl_n hA (by decide)) rfl (24 * (tn b) + tn i) (by omega) (mi_add (mi_mul rfl (ik_eq c_2)) (ik_eq hi0)) (by decide) dX8_item_67 (fun H locs hP hS => ?_)
          refine lv_iconst (v := 1) hx hb dX8_item_68 (by decide) ?_
          exact W.iret (v := 1) hx hb hr (fun t ht hW => ⟨⟨_, _, rfl, by dsimp only; rw [if_pos c_2, if_pos c_4, if_pos c_6, if_pos nc_7]; exact ⟨rfl, rfl⟩, mB.of ht hP⟩, hS.F ht⟩) hS.2.2 dX8_item_69
      · skip
        refine lv_iload hx hb dX8_item_31 (lv_at hl 0 rfl) ?_
        exact W.iret (v := (fndM σ (tn b) a i 1)) hx hb hr (fun t ht hW => ⟨⟨_, _, rfl, by dsimp only; rw [if_pos c_2, if_pos c_4, if_neg c_6]; exact ⟨rfl, rfl⟩, mB.of ht hP⟩, hS.F ht⟩) hS.2.2 dX8_item_33
    · have c_4 : ¬ (ik a 3) := bi_f c_4
      refine lv_iconst (v := (-1)) hx hb dX8_item_14 (by decide) ?_
      exact W.iret (v := (-1)) hx hb hr (fun t ht hW => ⟨⟨_, _, rfl, by dsimp only; rw [if_pos c_2, if_neg c_4]; exact ⟨rfl, rfl⟩, mB.of ht hP⟩, hS.F ht⟩) hS.2.2 dX8_item_15
set_option maxHeartbeats 4000000 in
set_option maxRecDepth 100000 in
theorem mt_X8_copy (l : Launch) (D : va_G) (dA : Nat → ClassId) (st : Nat) (hst : st = 1 ∨ st = 2) (ad : Nat → Nat) (N : Nat) (hA : yA ad N) (σ : mMem) (b i d j n : Int32) (sz : Nat → Nat) (hsz : ∀ k, k < 4 → σ 15 k = nI (sz k) ∧ sz k ≤ 24) : Met l yX8_copy (ws_ yX8_copy cX8_copy 7 (some .int)) ({ frames := 2, cells := 0, slots := 0, locals := 45 }) (va_Pc [.ref (ad 0), .int b, .int i, .int d, .int j, .int n] (mPre D dA (shM st) ad N σ)) (va_Qi (fun (r : Int32) (u : mMem) => (if ik b 4 then (if ik d 4 then (if σ 14 (tn b) < 0 then (r = -11 ∧ u = σ) else (if 0 ≤ σ 14 (tn d) then (if σ 14 (tn b) = σ 14 (tn d) then (if n < 0 then (r = -13 ∧ u = σ) else (if fndM σ (tn b) (σ 14 (tn b)) i n < 0 then (r = -13 ∧ u = σ) else (if 0 ≤ fndM σ (tn d) (σ 14 (tn d)) j n then (r = n ∧ u = (cpB (cpA σ (24 * tn b + tn i) (tn n)) (24 * tn d + tn j) (tn n))) else (r = -13 ∧ u = σ)))) else (r = -12 ∧ u = σ)) else (r = -11 ∧ u = σ))) else (r = -1 ∧ u = σ)) else (r = -1 ∧ u = σ))) (mB D dA (shM st) ad N) (mAd ad N)) 0 0 (mAd ad N) := by
  refine Met.ofW (cc := cX8_copy) (maxL := 7) (ret := (some .int)) (by decide) rfl ?_
  intro pp ee ss mm args below meth cd s₁ B hml hv
  obtain ⟨rfl, hP, hE⟩ := hv
  have hx := B.exec
  have hb := B.bytes
  have hr := B.returns
  have hts := atoms_spec (ws := ws_ yX8_copy cX8_copy 7 (some .int)) B.pre
  have hts : ∀ w ∈ lw_all, w.before _ ss = true := fun w h => hts w (List.mem_cons_of_mem _ h)
  have hown : ss.vm.findClass RX8 = some mm.cls := findClass_of_methodNamed B.named
  have hlocks := B.notSynchronized
  have hD := hA.2.self
  have hS : va_S (mAd ad N) ss.heap ss.heap [] := va_S.rf
  have hNN := hA.1
  have hl := lv_entry ([.ref (ad 0), .int b, .int i, .int d, .int j, .int n]) (n := 7) (Nat.le_of_ble_eq_true rfl)
  rw [lg_entry_eq]
  generalize (lg_sl ([.ref (ad 0), .int b, .int i, .int d, .int j, .int n]) ++ List.replicate (7 - (lg_sl ([.ref (ad 0), .int b, .int i, .int d, .int j, .int n])).length) Slot.unset).toArray = ls at hl ⊢
  have hl : lv_has ls 7 [(0, .ref (ad 0)), (1, .int b), (2, .int i), (3, .int d), (4, .int j), (5, .int n)] := hl
  refine lv_iload_n hx hb dX8_copy_0 rfl (lv_at hl 1 rfl) ?_
  refine vp_callSi (W.runS (As := [.int b]) (rest := []) ⟨hx, hb, hml, hown, hts⟩ (mt_X8_isSheet l b) (va_cwS 1 hts (lw_S q1069 q1070 q55 q1071) rfl rfl rfl (by decide +kernel) ⟨Nat.le_of_ble_eq_true rfl, Nat.le_of_ble_eq_true rfl⟩) ⟨fun _ _ _ _ h => h, fun _ _ _ => ⟨rfl, trivial⟩⟩ rfl rfl hl.1 rfl (lv_room (Nat.le_of_ble_eq_true rfl)) dX8_copy_1 ⟨Nat.le_of_ble_eq_true rfl, Nat.le_of_ble_eq_true rfl⟩) (fun r_1 hr_1 => ?_)
  subst hr_1
  refine lv_if_eq (tgt := 14) hx hb dX8_copy_4 (by decide) (fun c_2 => ?_) (fun c_2 => ?_)
  · have c_2 : ¬ (ik b 4) := bi_f c_2
    refine lv_iconst (v := (-1)) hx hb dX8_copy_14 (by decide) ?_
    exact W.iret (v := (-1)) hx hb hr (fun t ht hW => ⟨⟨_, _, rfl, by dsimp only; rw [if_neg c_2]; exact ⟨rfl, rfl⟩, mB.of ht hP⟩, hS.F ht⟩) hS.2.2 dX8_copy_15
  · have c_2 : ik b 4 := bi_t c_2
    have c_2_lt := ik_lt c_2
    refine lv_iload_n hx hb dX8_copy_7 rfl (lv_at hl 3 rfl) ?_
    refine vp_callSi (W.runS (As := [.int d]) (rest := []) ⟨hx, hb, hml, hown, hts⟩ (mt_X8_isSheet l d) (va_cwS 1 hts (lw_S q1069 q1070 q55 q1071) rfl rfl rfl (by decide +kernel) ⟨Nat.le_of_ble_eq_true rfl, Nat.le_of_ble_eq_true rfl⟩) ⟨fun _ _ _ _ h => h, fun _ _ _ => ⟨rfl, trivial⟩⟩ rfl rfl hl.1 rfl (lv_room (Nat.le_of_ble_eq_true rfl)) dX8_copy_8 ⟨Nat.le_of_ble_eq_true rfl, Nat.le_of_ble_eq_true rfl⟩) (fun r_3 hr_3 => ?_)
    subst hr_3
    refine lv_if_ne (tgt := 16) hx hb dX8_copy_11 (by decide) (fun c_4 => ?_) (fun c_4 => ?_)
    · have c_4 : ik d 4 := bi_t c_4
      have c_4_lt := ik_lt c_4
      refine lv_aload_n hx hb dX8_copy_16 rfl (lv_at hl 0 rfl) ?_
      refine mg_ref hx hb hts in_X8 hown hE hP 0 (yl_n hA (by decide)) rfl rfl 24 rfl (by decide) (hts _ q788) (fun _ h9 => h9) dX8_copy_17 ?_
      refine lv_iload_n hx hb dX8_copy_20 rfl (lv_at hl 1 rfl) ?_
      refine mg_ild hx hb hE hP 14 (yl_n hA (by decide)) rfl (tn b) (by omega) (ik_eq c_2) (by decide) dX8_copy_21 ?_
      refine lv_if_lt (tgt := 34) hx hb dX8_copy_22 (by decide) (fun c_5 => ?_) (fun c_5 => ?_)
      · skip
        refine lv_bipush (v := (-11)) hx hb dX8_copy_34 (by decide) ?_
        exact W.iret (v := (-11)) hx hb hr (fun t ht hW => ⟨⟨_, _, rfl, by dsimp only; rw [if_pos c_2, if_pos c_4, if_pos c_5]; exact ⟨rfl, rfl⟩, mB.of ht hP⟩, hS.F ht⟩) hS.2.2 dX8_copy_36
      · skip
        refine lv_aload_n hx hb dX8_copy_25 rfl (lv_at hl 0 rfl) ?_
        refine mg_ref hx hb hts in_X8 hown hE hP 0 (yl_n hA (by decide)) rfl rfl 24 rfl (by decide) (hts _ q788) (fun _ h9 => h9) dX8_copy_26 ?_
        refine lv_iload_n hx hb dX8_copy_29 rfl (lv_at hl 3 rfl) ?_
        refine mg_ild hx hb hE hP 14 (yl_n hA (by decide)) rfl (tn d) (by omega) (ik_eq c_4) (by decide) dX8_copy_30 ?_
        refine lv_if_ge (tgt := 37) hx hb dX8_copy_31 (by decide) (fun c_6 => ?_) (fun c_6 => ?_)
        · skip
          refine lv_aload_n hx hb dX8_copy_37 rfl (lv_at hl 0 rfl) ?_
          refine mg_ref hx hb hts in_X8 hown hE hP 0 (yl_n hA (by decide)) rfl rfl 24 rfl (by decide) (hts _ q788) (fun _ h9 => h9) dX8_copy_38 ?_
          refine lv_iload_n hx hb dX8_copy_41 rfl (lv_at hl 1 rfl) ?_
          refine mg_ild hx hb hE hP 14 (yl_n hA (by decide)) rfl (tn b) (by omega) (ik_eq c_2) (by decide) dX8_copy_42 ?_
          refine lv_aload_n hx hb dX8_copy_43 rfl (lv_at hl 0 rfl) ?_
          refine mg_ref hx hb hts in_X8 hown hE hP 0 (yl_n hA (by decide)) rfl rfl 24 rfl (by decide) (hts _ q788) (fun _ h9 => h9) dX8_copy_44 ?_
          refine lv_iload_n hx hb dX8_copy_47 rfl (lv_at hl 3 rfl) ?_
          refine mg_ild hx hb hE hP 14 (yl_n hA (by decide)) rfl (tn d) (by omega) (ik_eq c_4) (by decide) dX8_copy_48 ?_
          refine lv_icmp_eq (tgt := 55) hx hb dX8_copy_49 (by decide) (fun c_7 => ?_) (fun c_7 => ?_)
          · skip
            refine lv_iload hx hb dX8_copy_55 (lv_at hl 5 rfl) ?_
            refine lv_if_lt (tgt := 95) hx hb dX8_copy_57 (by decide) (fun c_8 => ?_) (fun c_8 => ?_)
            · skip
              refine lv_bipush (v := (-13)) hx hb dX8_copy_95 (by decide) ?_
              exact W.iret (v := (-13)) hx hb hr (fun t ht hW => ⟨⟨_, _, rfl, by dsimp only; rw [if_pos c_2, if_pos c_4, if_neg c_5, if_pos c_6, if_pos c_7, if_pos c_8]; exact ⟨rfl, rfl⟩, mB.of ht hP⟩, hS.F ht⟩) hS.2.2 dX8_copy_97
            · skip
              refine lv_aload_n hx hb dX8_copy_60 rfl (lv_at hl 0 rfl) ?_
              refine lv_iload_n hx hb dX8_copy_61 rfl (lv_at hl 1 rfl) ?_
              refine lv_aload_n hx hb dX8_copy_62 rfl (lv_at hl 0 rfl) ?_
              refine mg_ref hx hb hts in_X8 hown hE hP 0 (yl_n hA (by decide)) rfl rfl 24 rfl (by decide) (hts _ q788) (fun _ h9 => h9) dX8_copy_63 ?_
              refine lv_iload_n hx hb dX8_copy_66 rfl (lv_at hl 1 rfl) ?_
              refine mg_ild hx hb hE hP 14 (yl_n hA (by decide)) rfl (tn b) (by omega) (ik_eq c_2) (by decide) dX8_copy_67 ?_
              refine lv_iload_n hx hb dX8_copy_68 rfl (lv_at hl 2 rfl) ?_
              refine lv_iload hx hb dX8_copy_69 (lv_at hl 5 rfl) ?_
              refine vp_callSi (W.runV (As := [.int b, .int (σ 14 (tn b)), .int i, .int n]) (rest := []) ⟨hx, hb, hml, hown, hts⟩ (mt_X8_finds l D dA st hst ad N hA σ b (tn b) (ik_eq c_2) (by omega) (σ 14 (tn b)) i n) (cwV 4 hts (lw_V q1075 q1077 qs43 q55 q1078) rfl rfl rfl (by decide +kernel) ⟨Nat.le_of_ble_eq_true rfl, Nat.le_of_ble_eq_true rfl⟩) ⟨mPre.blind, m_recv hE hP 0 (yl_n hA (by decide)) rfl rfl, mPre.at hE hP⟩ rfl rfl hl.1 rfl (lv_room (Nat.le_of_ble_eq_true rfl)) dX8_copy_71 ⟨Nat.le_of_ble_eq_true rfl, Nat.le_of_ble_eq_true rfl⟩) (fun r_9 hr_9 => ?_)
              subst hr_9
              refine lv_if_lt (tgt := 95) hx hb dX8_copy_74 (by decide) (fun c_10 => ?_) (fun c_10 => ?_)
              · skip
                refine lv_bipush (v := (-13)) hx hb dX8_copy_95 (by decide) ?_
                exact W.iret (v := (-13)) hx hb hr (fun t ht hW => ⟨⟨_, _, rfl, by dsimp only; rw [if_pos c_2, if_pos c_4, if_neg c_5, if_pos c_6, if_pos c_7, if_neg c_8, if_pos c_10]; exact ⟨rfl, rfl⟩, mB.of ht hP⟩, hS.F ht⟩) hS.2.2 dX8_copy_97
              · skip
                refine lv_aload_n hx hb dX8_copy_77 rfl (lv_at hl 0 rfl) ?_
                refine lv_iload_n hx hb dX8_copy_78 rfl (lv_at hl 3 rfl) ?_
                refine lv_aload_n hx hb dX8_copy_79 rfl (lv_at hl 0 rfl) ?_
                refine mg_ref hx hb hts in_X8 hown hE hP 0 (yl_n hA (by decide)) rfl rfl 24 rfl (by decide) (hts _ q788) (fun _ h9 => h9) dX8_copy_80 ?_
                refine lv_iload_n hx hb dX8_copy_83 rfl (lv_at hl 3 rfl) ?_
                refine mg_ild hx hb hE hP 14 (yl_n hA (by decide)) rfl (tn d) (by omega) (ik_eq c_4) (by decide) dX8_copy_84 ?_
                refine lv_iload hx hb dX8_copy_85 (lv_at hl 4 rfl) ?_
                refine lv_iload hx hb dX8_copy_87 (lv_at hl 5 rfl) ?_
                refine vp_callSi (W.runV (As := [.int d, .int (σ 14 (tn d)), .int j, .int n]) (rest := []) ⟨hx, hb, hml, hown, hts⟩ (mt_X8_finds l D dA st hst ad N hA σ d (tn d) (ik_eq c_4) (by omega) (σ 14 (tn d)) j n) (cwV 4 hts (lw_V q1075 q1077 qs43 q55 q1078) rfl rfl rfl (by decide +kernel) ⟨Nat.le_of_ble_eq_true rfl, Nat.le_of_ble_eq_true rfl⟩) ⟨mPre.blind, m_recv hE hP 0 (yl_n hA (by decide)) rfl rfl, mPre.at hE hP⟩ rfl rfl hl.1 rfl (lv_room (Nat.le_of_ble_eq_true rfl)) dX8_copy_89 ⟨Nat.le_of_ble_eq_true rfl, Nat.le_of_ble_eq_true rfl⟩) (fun r_11 hr_11 => ?_)
                subst hr_11
                refine lv_if_ge (tgt := 98) hx hb dX8_copy_92 (by decide) (fun c_12 => ?_) (fun c_12 => ?_)
                · skip
                  have hz := hsz (tn b) c_2_lt
                  have hy := hsz (tn d) c_4_lt
                  obtain ⟨q1, q2, q3⟩ := fnd_n hz.1 hz.2 c_8 (Int32.not_lt.mp c_10)
                  obtain ⟨q4, q5, q6⟩ := fnd_n hy.1 hy.2 c_8 c_12
                  have hz2 := hz.2
                  have hy2 := hy.2
                  refine lv_iconst (v := 0) hx hb dX8_copy_98 (by decide) ?_
                  refine lv_istore (lv' := [(6, .int 0), (0, .ref (ad 0)), (1, .int b), (2, .int i), (3, .int d), (4, .int j), (5, .int n)]) hx hb dX8_copy_99 hl (by decide) rfl (fun ls hl => ?_)
                  have lp101 : ∀ (fu : Nat) (k : Nat) (_ : k ≤ tn n) (_ : tn n - k < fu) (H : Heap) (locs : List Loc) (_ : va_P D xCl (mW dA (shM st) ad N (cpA σ (24 * tn b + tn i) k)) H) (_ : va_S (mAd ad N) ss.heap H locs) (ls : Array Slot) (_ : lv_has ls 7 [(6, .int (nI k)), (0, .ref (ad 0)), (1, .int b), (2, .int i), (3, .int d), (4, .int j), (5, .int n)]), W pp l ee (headSpec (ws_ yX8_copy cX8_copy 7 (some .int)) ({ frames := 2, cells := 0, slots := 0, locals := 45 })).room ss mm ([.ref (ad 0), .int b, .int i, .int d, .int j, .int n] : List Value).toArray below meth cd H locs 0 0 (MQ below (va_Qi (fun (r : Int32) (u : mMem) => (if ik b 4 then (if ik d 4 then (if σ 14 (tn b) < 0 then (r = -11 ∧ u = σ) else (if 0 ≤ σ 14 (tn d) then (if σ 14 (tn b) = σ 14 (tn d) then (if n < 0 then (r = -13 ∧ u = σ) else (if fndM σ (tn b) (σ 14 (tn b)) i n < 0 then (r = -13 ∧ u = σ) else (if 0 ≤ fndM σ (tn d) (σ 14 (tn d)) j n then (r = n ∧ u = (cpB (cpA σ (24 * tn b + tn i) (tn n)) (24 * tn d + tn j) (tn n))) else (r = -13 ∧ u = σ)))) else (r = -12 ∧ u = σ)) else (r = -11 ∧ u = σ))) else (r = -1 ∧ u = σ)) else (r = -1 ∧ u = σ))) (mB D dA (shM st) ad N) (mAd ad N)) ([.ref (ad 0), .int b, .int i, .int d, .int j, .int n] : List Value).toArray ss 0 0 (mAd ad N)) (F0 mm 101 ls []) := by
                    intro fu
                    induction fu with
                    | zero => intro k hk hfu; exact absurd hfu (Nat.not_lt_zero _)
                    | succ fu ih101 =>
                      intro k hk hfu H locs hP hS ls hl
                      refine lv_iload hx hb dX8_copy_101 (lv_at hl 0 rfl) ?_
                      refine lv_iload hx hb dX8_copy_103 (lv_at hl 6 rfl) ?_
                      refine lv_icmp_ge (tgt := 135) hx hb dX8_copy_105 (by decide) (fun c_13 => ?_) (fun c_13 => ?_)
                      · have nc_13 : tn n ≤ k := mi_le (tn_eq q2) rfl (by omega) (by omega) c_13
                        refine lv_iconst (v := 0) hx hb dX8_copy_135 (by decide) ?_
                        refine lv_istore (lv' := [(6, .int 0), (0, .ref (ad 0)), (1, .int b), (2, .int i), (3, .int d), (4, .int j), (5, .int n)]) hx hb dX8_copy_136 hl (by decide) rfl (fun ls hl => ?_)
                        have lp138 : ∀ (fu : Nat) (q : Nat) (_ : q ≤ tn n) (_ : tn n - q < fu) (H : Heap) (locs : List Loc) (_ : va_P D xCl (mW dA (shM st) ad N (cpB (cpA σ (24 * tn b + tn i) (tn n)) (24 * tn d + tn j) q)) H) (_ : va_S (mAd ad N) ss.heap H locs) (ls : Array Slot) (_ : lv_has ls 7 [(6, .int (nI q)), (0, .ref (ad 0)), (1, .int b), (2, .int i), (3, .int d), (4, .int j), (5, .int n)]), W pp l ee (headSpec (ws_ yX8_copy cX8_copy 7 (some .int)) ({ frames := 2, cells := 0, slots := 0, locals := 45 })).room ss mm ([.ref (ad 0), .int b, .int i, .int d, .int j, .int n] : List Value).toArray below meth cd H locs 0 0 (MQ below (va_Qi (fun (r : Int32) (u : mMem) => (if ik b 4 then (if ik d 4 then (if σ 14 (tn b) < 0 then (r = -11 ∧ u = σ) else (if 0 ≤ σ 14 (tn d) then (if σ 14 (tn b) = σ 14 (tn d) then (if n < 0 then (r = -13 ∧ u = σ) else (if fndM σ (tn b) (σ 14 (tn b)) i n < 0 then (r = -13 ∧ u = σ) else (if 0 ≤ fndM σ (tn d) (σ 14 (tn d)) j n then (r = n ∧ u = (cpB (cpA σ (24 * tn b + tn i) (tn n)) (24 * tn d + tn j) (tn n))) else (r = -13 ∧ u = σ)))) else (r = -12 ∧ u = σ)) else (r = -11 ∧ u = σ))) else (r = -1 ∧ u = σ)) else (r = -1 ∧ u = σ))) (mB D dA (shM st) ad N) (mAd ad N)) ([.ref (ad 0), .int b, .int i, .int d, .int j, .int n] : List Value).toArray ss 0 0 (mAd ad N)) (F0 mm 138 ls []) := by
                          intro fu
                          induction fu with
                          | zero => intro q hq hfu; exact absurd hfu (Nat.not_lt_zero _)
                          | succ fu ih138 =>
                            intro q hq hfu H locs hP hS ls hl
                            refine lv_iload hx hb dX8_copy_138 (lv_at hl 0 rfl) ?_
                            refine lv_iload hx hb dX8_copy_140 (lv_at hl 6 rfl) ?_
                            refine lv_icmp_ge (tgt := 173) hx hb dX8_copy_142 (by decide) (fun c_14 => ?_) (fun c_14 => ?_)
                            · have nc_14 : tn n ≤ q := mi_le (tn_eq q2) rfl (by omega) (by omega) c_14
                              refine lv_iload hx hb dX8_copy_173 (lv_at hl 6 rfl) ?_
                              exact W.iret (v := n) hx hb hr (fun t ht hW => ⟨⟨_, _, rfl, by dsimp only; rw [if_pos c_2, if_pos c_4, if_neg c_5, if_pos c_6, if_pos c_7, if_neg c_8, if_neg c_10, if_pos c_12]; exact ⟨rfl, by rw [show q = tn n by omega]⟩, mB.of ht hP⟩, hS.F ht⟩) hS.2.2 dX8_copy_175
                            · have nc_14 : q < tn n := mi_nle (tn_eq q2) rfl (by omega) (by omega) c_14
                              refine lv_aload_n hx hb dX8_copy_145 rfl (lv_at hl 1 rfl) ?_
                              refine mg_ref hx hb hts in_X8 hown hE hP 0 (yl_n hA (by decide)) rfl rfl 26 rfl (by decide) (hts _ q790) (fun _ h9 => h9) dX8_copy_146 ?_
                              refine lv_bipush (v := 24) hx hb dX8_copy_149 (by decide) ?_
                              refine lv_iload_n hx hb dX8_copy_151 rfl (lv_at hl 4 rfl) ?_
                              refine lv_imul hx hb dX8_copy_152 ?_
                              refine lv_iload hx hb dX8_copy_153 (lv_at hl 5 rfl) ?_
                              refine lv_iadd hx hb dX8_copy_155 ?_
                              refine lv_iload hx hb dX8_copy_156 (lv_at hl 0 rfl) ?_
                              refine lv_iadd hx hb dX8_copy_158 ?_
                              refine lv_aload_n hx hb dX8_copy_159 rfl (lv_at hl 1 rfl) ?_
                              refine mg_ref hx hb hts in_X8 hown hE hP 0 (yl_n hA (by decide)) rfl rfl 27 rfl (by decide) (hts _ q791) (fun _ h9 => h9) dX8_copy_160 ?_
                              refine lv_iload hx hb dX8_copy_163 (lv_at hl 0 rfl) ?_
                              refine mg_ild hx hb hE hP 17 (yl_n hA (by decide)) rfl q (by omega) rfl (by decide) dX8_copy_165 ?_
                              refine mg_ist (v := (cpB (cpA σ (24 * tn b + tn i) (tn n)) (24 * tn d + tn j) q) 17 q) hx hb hE hD hP hS 16 (yl_n hA (by decide)) rfl (24 * (tn d) + tn j + q) (by omega) (mi_add (mi_add (mi_mul rfl (ik_eq c_4)) (tn_eq q4)) rfl) (by decide) dX8_copy_166 (fun H locs hP hS => ?_)
                              refine lv_iinc (v := (nI (q + 1))) (lv' := [(6, .int (nI (q + 1))), (0, .ref (ad 0)), (1, .int b), (2, .int i), (3, .int d), (4, .int j), (5, .int n)]) hx hb dX8_copy_167 hl (k := 0) rfl (mi_add rfl rfl) (by decide) rfl (fun ls hl => ?_)
                              refine lv_goto (tgt := 138) hx hb dX8_copy_170 (by decide) ?_
                              exact ih138  (q + 1) (by omega) (by omega) _ _ (m_eq (rfl) hP) hS ls (lv_sub hl [0, 1, 2, 3, 4, 5, 6] rfl)
                        exact lp138 (tn n - 0 + 1) 0 (by omega) (by omega) _ _ (m_eq (by rw [show k = tn n by omega]; rfl) hP) hS ls (lv_sub hl [0, 1, 2, 3, 4, 5, 6] rfl)
                      · have nc_13 : k < tn n := mi_nle (tn_eq q2) rfl (by omega) (by omega) c_13
                        refine lv_aload_n hx hb dX8_copy_108 rfl (lv_at hl 1 rfl) ?_
                        refine mg_ref hx hb hts in_X8 hown hE hP 0 (yl_n hA (by decide)) rfl rfl 27 rfl (by decide) (hts _ q791) (fun _ h9 => h9) dX8_copy_109 ?_
                        refine lv_iload hx hb dX8_copy_112 (lv_at hl 0 rfl) ?_
                        refine lv_aload_n hx hb dX8_copy_114 rfl (lv_at hl 1 rfl) ?_
                        refine mg_ref hx hb hts in_X8 hown hE hP 0 (yl_n hA (by decide)) rfl rfl 26 rfl (by decide) (hts _ q790) (fun _ h9 => h9) dX8_copy_115 ?_
                        refine lv_bipush (v := 24) hx hb dX8_copy_118 (by decide) ?_
                        refine lv_iload_n hx hb dX8_copy_120 rfl (lv_at hl 2 rfl) ?_
                        refine lv_imul hx hb dX8_copy_121 ?_
                        refine lv_iload_n hx hb dX8_copy_122 rfl (lv_at hl 3 rfl) ?_
                        refine lv_iadd hx hb dX8_copy_123 ?_
                        refine lv_iload hx hb dX8_copy_124 (lv_at hl 0 rfl) ?_
                        refine lv_iadd hx hb dX8_copy_126 ?_
                        refine mg_ild hx hb hE hP 16 (yl_n hA (by decide)) rfl (24 * (tn b) + tn i + k) (by omega) (mi_add (mi_add (mi_mul rfl (ik_eq c_2)) (tn_eq q1)) rfl) (by decide) dX8_copy_127 ?_
                        refine mg_ist (v := (cpA σ (24 * tn b + tn i) k) 16 (24 * (tn b) + tn i + k)) hx hb hE hD hP hS 17 (yl_n hA (by decide)) rfl k (by omega) rfl (by decide) dX8_copy_128 (fun H locs hP hS => ?_)
                        refine lv_iinc (v := (nI (k + 1))) (lv' := [(6, .int (nI (k + 1))), (0, .ref (ad 0)), (1, .int b), (2, .int i), (3, .int d), (4, .int j), (5, .int n)]) hx hb dX8_copy_129 hl (k := 0) rfl (mi_add rfl rfl) (by decide) rfl (fun ls hl => ?_)
                        refine lv_goto (tgt := 101) hx hb dX8_copy_132 (by decide) ?_
                        exact ih101  (k + 1) (by omega) (by omega) _ _ (m_eq (rfl) hP) hS ls (lv_sub hl [0, 1, 2, 3, 4, 5, 6] rfl)
                  exact lp101 (tn n - 0 + 1) 0 (by omega) (by omega) _ _ (m_eq (rfl) hP) hS ls (lv_sub hl [0, 1, 2, 3, 4, 5, 6] rfl)
                · skip
                  refine lv_bipush (v := (-13)) hx hb dX8_copy_95 (by decide) ?_
                  exact W.iret (v := (-13)) hx hb hr (fun t ht hW => ⟨⟨_, _, rfl, by dsimp only; rw [if_pos c_2, if_pos c_4, if_neg c_5, if_pos c_6, if_pos c_7, if_neg c_8, if_neg c_10, if_neg c_12]; exact ⟨rfl, rfl⟩, mB.of ht hP⟩, hS.F ht⟩) hS.2.2 dX8_copy_97
          · skip
            refine lv_bipush (v := (-12)) hx hb dX8_copy_52 (by decide) ?_
            exact W.iret (v := (-12)) hx hb hr (fun t ht hW => ⟨⟨_, _, rfl, by dsimp only; rw [if_pos c_2, if_pos c_4, if_neg c_5, if_pos c_6, if_neg c_7]; exact ⟨rfl, rfl⟩, mB.of ht hP⟩, hS.F ht⟩) hS.2.2 dX8_copy_54
        · skip
          refine lv_bipush (v := (-11)) hx hb dX8_copy_34 (by decide) ?_
          exact W.iret (v := (-11)) hx hb hr (fun t ht hW => ⟨⟨_, _, rfl, by dsimp only; rw [if_pos c_2, if_pos c_4, if_neg c_5, if_neg c_6]; exact ⟨rfl, rfl⟩, mB.of ht hP⟩, hS.F ht⟩) hS.2.2 dX8_copy_36
    · have c_4 : ¬ (ik d 4) := bi_f c_4
      refine lv_iconst (v := (-1)) hx hb dX8_copy_14 (by decide) ?_
      exact W.iret (v := (-1)) hx hb hr (fun t ht hW => ⟨⟨_, _, rfl, by dsimp only; rw [if_pos c_2, if_neg c_4]; exact ⟨rfl, rfl⟩, mB.of ht hP⟩, hS.F ht⟩) hS.2.2 dX8_copy_15
