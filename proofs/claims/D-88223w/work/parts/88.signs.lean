/-! ===== signs in the invariants; the model's sign ===== -/
set_option maxRecDepth 100000
/-- places a step keeps -/
def kpt (i j : Nat) : Prop := i = 6 ∨ i = 7 ∨ i = 8 ∨ (i = 0 ∧ (j ≤ 4 ∨ j = 12 ∨ j = 13))
theorem tgo_k {T V : zT} {nd lg s i j : Nat} (h : kpt i j) : tgo T V nd lg s i j = T i j := by
  unfold kpt at h
  have h1 : tg3 T V nd lg s i j = T i j := by
    unfold tg3
    rw [tlose_i (by omega) (by omega)]
    unfold tg2 tg1
    rw [zup_k (by omega), zup_k (by omega)]
    split
    · exact zup_k (by omega)
    · rfl
  unfold tgo
  generalize tg3 T V nd lg s = U at *
  split
  · rw [zup_k (by omega)]
    exact h1
  · split
    · unfold tg4
      rw [zup_k (by omega)]
      exact h1
    · unfold tcome
      split
      · rw [zup_k (by omega), tlv_i (by omega) (by omega)]
        unfold tcom1 tg4
        rw [zup_k (by omega), zup_k (by omega), zup_k (by omega), zup_k (by omega)]
        exact h1
      · rw [tlv_i (by omega) (by omega)]
        unfold tcom1 tg4
        rw [zup_k (by omega), zup_k (by omega), zup_k (by omega), zup_k (by omega)]
        exact h1
theorem trest_k {T V : zT} {nd s i j : Nat} {a : Int32} (h : kpt i j) : trest T V nd s a i j = T i j := by
  unfold kpt at h
  unfold trest trB
  rw [zup_k (by omega), zup_k (by omega), tgain_i (by omega)]
  unfold trA
  split
  · rw [tgain_i (by omega), zup_k (by omega)]
  · split
    · cases tweak T nd with
      | none => rfl
      | some b =>
        show zup (zup T 2 b 2) 3 b (T 0 6) i j = T i j
        rw [zup_k (by omega), zup_k (by omega)]
    · rfl
theorem tst0_k {T : zT} {s i j : Nat} (h : kpt i j) : tst0 T s i j = T i j := by
  unfold kpt at h
  unfold tst0
  split
  · rw [zup_k (by omega), zup_k (by omega)]
  · rfl
theorem tstp_k {T V : zT} {L : zPL} {nd lg p s i j : Nat} (h : kpt i j) : tstp T V L nd lg p s i j = T i j := by
  have h11 : ∀ (U : zT) (c : Int32), zup U 0 11 c i j = U i j := fun U c => zup_k (by unfold kpt at h; omega)
  unfold tstp
  split
  · split
    · rw [tgo_k h, h11, tst0_k h]
    · rw [trest_k h, h11, tst0_k h]
  · exact tst0_k h
theorem cS_eq {T U : zT} (h : ∀ j, T 8 j = U 8 j) : ∀ n, cS T n = cS U n
  | 0 => rfl
  | n + 1 => by rw [cS_s, cS_s, cS_eq h n, h n]
theorem cS_up {T : zT} {st : Nat} {v : Int32} (h : T 8 st = -1) (hv : v ≠ -1) : ∀ n, cS (zup T 8 st v) n = cS T n + (if st < n then 1 else 0)
  | 0 => rfl
  | n + 1 => by
    have ih := cS_up h hv n
    have e1 := cS_s (T := zup T 8 st v) (n := n)
    have e2 := cS_s (T := T) (n := n)
    by_cases e : n = st
    · subst e
      rw [zup_q, if_neg hv] at e1
      rw [h, if_pos rfl] at e2
      rw [if_neg (Nat.lt_irrefl _)] at ih
      rw [if_pos (Nat.lt_succ_self _)]
      omega
    · rw [zup_k (by omega)] at e1
      by_cases e3 : st < n
      · rw [if_pos e3] at ih
        rw [if_pos (show st < n + 1 by omega)]
        omega
      · rw [if_neg e3] at ih
        rw [if_neg (show ¬ st < n + 1 by omega)]
        omega
theorem cS_end {T : zT} {st : Nat} (h : ∀ s, st ≤ s → s < 2000 → T 8 s = -1) : ∀ c, st + c ≤ 2000 → cS T (st + c) = cS T st
  | 0, _ => rfl
  | c + 1, hc => by
    rw [show st + (c + 1) = st + c + 1 from rfl, cS_s, cS_end h c (by omega), h (st + c) (by omega) (by omega)]
    rfl
def SI (st : Nat) (T : zT) : Prop := T 0 12 = Int32.ofNat (cS T 2000) ∧ ∀ s, s < 2000 → T 8 s ≠ -1 → nn (T 0 3) ≤ s ∧ s < st ∧ sm (T 8 s) (60 * (s - nn (T 0 3) + 1))
theorem SI_stp {T V : zT} {L : zPL} {nd lg p s st : Nat} (h : SI st T) : SI st (tstp T V L nd lg p s) := by
  have h8 : ∀ j, tstp T V L nd lg p s 8 j = T 8 j := fun j => tstp_k (by simp [kpt])
  have h0 : ∀ j, (j ≤ 4 ∨ j = 12 ∨ j = 13) → tstp T V L nd lg p s 0 j = T 0 j := fun j hj => tstp_k (by simp [kpt, hj])
  unfold SI
  rw [cS_eq h8, h0 12 (by omega), h0 3 (by omega)]
  simp only [h8]
  exact h
theorem SI_none {T : zT} {st : Nat} (h : SI st T) : ∀ s, st ≤ s → s < 2000 → T 8 s = -1 := by
  intro s h1 h2
  by_cases e : T 8 s = -1
  · exact e
  · have := (h.2 s h2 e).2.1
    omega
theorem SI_up {T : zT} {st : Nat} (h : SI st T) : SI (st + 1) T := ⟨h.1, fun s h1 h2 => by
  obtain ⟨a, b, c⟩ := h.2 s h1 h2
  exact ⟨a, by omega, c⟩⟩
theorem cS_q {T : zT} {a : Nat} {v : Int32} {n : Nat} : cS (zup T 0 a v) n = cS T n := cS_eq (fun j => zup_k (by omega)) n
theorem tway_TI {V T : zT} {st : Nat} (hV : WV V) (h : TI V st T) : tway (T 0 7) V (nn (T 0 6)) = Int32.ofNat (nway V (nn (T 0 7)) (nn (T 0 6))) ∧ (T 0 5 ≠ 0 → nway V (nn (T 0 7)) (nn (T 0 6)) ≤ 60 * (st - nn (T 0 3)) ∧ nn (T 0 3) < st) := by
  obtain ⟨ha, h6, h7, hs, h5, hl, h0, hw⟩ := h
  have e := tway_n (V := V) (f := nn (T 0 7)) (nn (T 0 6)) (fun j hj => (hV.2.2.2.2.1 j (by have := h6.2; omega)).1)
  rw [← h7.1] at e
  exact ⟨e, fun q => ⟨(hw q).2, (hw q).1⟩⟩
theorem i_ne1 {a : Nat} (h : a < 2147483648) : Int32.ofNat a ≠ -1 := fun q => by
  have := i_neg1 h
  rw [q] at this
  exact absurd rfl (of_eq_false this)
theorem tsg_5 {T : zT} {ng : Nat} {s e : Int32} (h : tsg T ng s e = true) : T 0 5 ≠ 0 := by
  intro q
  simp [tsg, q] at h
theorem SI_sgn {V T : zT} {st ng : Nat} {e : Int32} (hV : WV V) (hst : st < 2000) (h : TI V (st + 1) T) (hs : SI st T) : SI (st + 1) (tsgn T V ng (nn (T 0 6)) st e) := by
  unfold tsgn
  by_cases c : tsg T ng (Int32.ofNat st) e = true
  · rw [if_pos c]
    obtain ⟨w1, w2⟩ := tway_TI hV h
    obtain ⟨w3, w4⟩ := w2 (tsg_5 c)
    have h3 : nn (T 0 3) ≤ 100 := h.1.2.2.2.1.2
    have hn := SI_none hs st (by omega) (by omega)
    generalize hW : nway V (nn (T 0 7)) (nn (T 0 6)) = W at *
    have hv : Int32.ofNat W ≠ -1 := i_ne1 (by omega)
    rw [w1]
    have e3 : zup (zup T 8 st (Int32.ofNat W)) 0 12 (T 0 12 + 1) 0 3 = T 0 3 := by simp [zup]
    refine ⟨?_, fun s h1 h2 => ?_⟩
    · rw [cS_q, cS_up hn hv, if_pos (by omega), zup_q, hs.1, i_succ]
    · rw [e3]
      rw [zup_k (by omega)] at h2 ⊢
      by_cases q : s = st
      · subst q
        rw [zup_q]
        exact ⟨by omega, by omega, sm_of (by omega) (by omega)⟩
      · rw [zup_k (by omega)] at h2 ⊢
        obtain ⟨a, b, c⟩ := hs.2 s h1 h2
        exact ⟨a, by omega, c⟩
  · rw [if_neg c]
    exact SI_up hs
theorem TI_sgn {V T : zT} {st s ng lg : Nat} {e : Int32} (h : TI V st T) : TI V st (tsgn T V ng lg s e) := by
  unfold tsgn
  split
  · obtain ⟨ha, hb⟩ := h
    have et : ∀ (a b : Int32) (k : Nat), tweak (zup (zup T 8 s a) 0 12 b) k = tweak T k := fun a b k => tweak_eq k (fun j _ => ⟨by simp [zup], by simp [zup]⟩)
    have e0 : ∀ (a b : Int32) (j : Nat), j ≠ 12 → zup (zup T 8 s a) 0 12 b 0 j = T 0 j := fun a b j hj => by simp [zup, hj]
    have e1 : ∀ (a b : Int32) (j : Nat), zup (zup T 8 s a) 0 12 b 1 j = T 1 j := fun a b j => by simp [zup]
    refine ⟨tA_same ha (e0 _ _ _ (by omega)) (e0 _ _ _ (by omega)) (e0 _ _ _ (by omega)) (e0 _ _ _ (by omega)) (e0 _ _ _ (by omega)), ?_⟩
    unfold tB
    rw [e0 _ _ 6 (by omega), e0 _ _ 7 (by omega), e0 _ _ 0 (by omega), e0 _ _ 5 (by omega), e0 _ _ 3 (by omega), et]
    simp only [e1]
    exact hb
  · exact h
/-- a step and its sign -/
def tfs (V : zT) (L : zPL) (st : Nat) (T : zT) : zT := tsgn (tstp T V L (nn (T 0 0)) (nn (T 0 6)) (nn (T 0 4)) st) V (nn (T 0 13)) (nn (tstp T V L (nn (T 0 0)) (nn (T 0 6)) (nn (T 0 4)) st 0 6)) st (V 0 3)
theorem tsgn_k {T V : zT} {ng lg s j : Nat} {e : Int32} (h : j ≠ 12) : tsgn T V ng lg s e 0 j = T 0 j := by
  unfold tsgn
  split
  · simp [zup, h]
  · rfl
theorem tfs_0 {V : zT} {L : zPL} {st : Nat} {T : zT} {j : Nat} (h : j ≤ 4 ∨ j = 13) : tfs V L st T 0 j = T 0 j := by
  unfold tfs
  rw [tsgn_k (by omega)]
  exact tstp_k (by unfold kpt; omega)
theorem TI_fs {V T : zT} {L : zPL} {st : Nat} (hV : WV V) (hst : st < 2000) (h : TI V st T) : TI V (st + 1) (tfs V L st T) := TI_sgn (tstp_TI hV hst h)
theorem SI_fs {V T : zT} {L : zPL} {st : Nat} (hV : WV V) (hst : st < 2000) (h : TI V st T) (hs : SI st T) : SI (st + 1) (tfs V L st T) := SI_sgn hV hst (tstp_TI hV hst h) (SI_stp hs)
theorem tOK_of {V T : zT} {st : Nat} (h : TI V st T) (hs : SI st T) : tOK T := ⟨h.1.1, h.1.2.1, hs.1⟩
