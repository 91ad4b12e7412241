/-! ===== what holds of a team: rests, starts, a whole step ===== -/
set_option maxRecDepth 100000
theorem OI_TI {V T : zT} {st : Nat} (hst : st < 2000) (h : OI V st T) : TI V (st + 1) T := by
  obtain ⟨ha, ⟨h6, h6l⟩, h7, hs, hb, h5, hst2, hw⟩ := h
  exact ⟨ha, h6, h7, hs, Or.inr (Or.inl h5), fun _ => ⟨h6l, hb⟩, fun q => absurd (h5.symm.trans q) (by decide), fun _ => ⟨by omega, by omega⟩⟩
theorem one_p {T : zT} {k : Nat} (h : tcnt T 0 k ≠ 0) : ∃ j, j < k ∧ T 2 j = 0 := by
  obtain ⟨b, hb⟩ := twk k h
  exact ⟨b, tweak_lt k b hb⟩
theorem two_p {T : zT} : ∀ k c, k ≤ 16 → tcnt T 0 k = Int32.ofNat c → c ≤ k → 2 ≤ c → ∀ b, ∃ j, j < k ∧ j ≠ b ∧ T 2 j = 0
  | 0, c, _, _, h1, h2, _ => by omega
  | k + 1, c, hk, h, h1, h2, b => by
    obtain ⟨c', q1, q2⟩ := tcn (T := T) (s := 0) k
    unfold tcnt at h
    rw [q2] at h
    by_cases e : T 2 k = 0
    · rw [if_pos e, i_succ, i_eq (by omega) (by omega)] at h
      by_cases e2 : k = b
      · obtain ⟨j, j1, j2⟩ := one_p (T := T) (k := k) (by rw [q2, show (0 : Int32) = Int32.ofNat 0 from rfl, Ne, i_eq (by omega) (by omega)]; omega)
        exact ⟨j, by omega, by omega, j2⟩
      · exact ⟨k, by omega, e2, e⟩
    · rw [if_neg e, show Int32.ofNat c' + 0 = Int32.ofNat c' by simp, i_eq (by omega) (by omega)] at h
      obtain ⟨j, j1, j2, j3⟩ := two_p k c (by omega) (h ▸ q2) (by omega) h2 b
      exact ⟨j, by omega, j2, j3⟩
theorem twf {T : zT} : ∀ k, (∃ j, j < k ∧ T 2 j = 0) → ∃ b, tweak T k = some b
  | 0, h => by
    obtain ⟨j, h, _⟩ := h
    omega
  | k + 1, h => by
    unfold tweak
    by_cases e : T 2 k = 0
    · rw [if_pos e]
      cases tweak T k with
      | none => exact ⟨k, rfl⟩
      | some b =>
        show ∃ b', (if T 1 b ≤ T 1 k then some b else some k) = some b'
        split
        · exact ⟨b, rfl⟩
        · exact ⟨k, rfl⟩
    · rw [if_neg e]
      obtain ⟨j, h1, h2⟩ := h
      exact twf k ⟨j, by
        have : j ≠ k := fun q => e (q ▸ h2)
        omega, h2⟩
theorem OI_gain {V T : zT} {st n : Nat} (hn : n ≤ 1000) (h : OI V st T) : OI V st (tgain (Int32.ofNat n) (nn (T 0 0)) T) := by
  obtain ⟨ha, h6, h7, hs, ⟨b, hb⟩, h5, hst2, hw⟩ := h
  have k0 : ∀ j, tgain (Int32.ofNat n) (nn (T 0 0)) T 0 j = T 0 j := fun j => tgain_i (by omega)
  have k2 : ∀ j, tgain (Int32.ofNat n) (nn (T 0 0)) T 2 j = T 2 j := fun j => tgain_i (by omega)
  have k1 : ∀ j, j < nn (T 0 0) → sm (tgain (Int32.ofNat n) (nn (T 0 0)) T 1 j) 1000 := by
    intro j hj
    have h8 := hs j hj
    unfold tgain
    by_cases e : T 2 j = 0
    · rw [if_pos ⟨rfl, hj, e⟩, h8.1, i_add, show (1000 : Int32) = Int32.ofNat 1000 from rfl, jmin_n (by omega) (by have := h8.2; omega)]
      exact sm_of (by omega) (by omega)
    · rw [if_neg (fun q => e q.2.2)]
      exact h8
  have ht := twf (T := tgain (Int32.ofNat n) (nn (T 0 0)) T) (nn (T 0 0)) (by
    obtain ⟨j1, j2⟩ := tweak_lt _ b hb
    exact ⟨b, j1, (k2 b).trans j2⟩)
  refine ⟨tA_same ha (k0 0) (k0 1) (k0 3) (k0 4) (k0 13), ?_⟩
  rw [k0, k0, k0, k0, k0]
  exact ⟨h6, h7, k1, ht, h5, hst2, hw⟩
theorem OI_trA {V T : zT} {st : Nat} {a : Int32} (h : OI V st T) : OI V st (trA T (nn (T 0 0)) a) := by
  unfold trA
  by_cases c1 : a = 2 ∧ ¬ T 0 8 ≤ 0
  · rw [if_pos c1]
    have h2 : OI V st (zup T 0 8 (T 0 8 - 1)) := h.same (by simp [sameC, zup])
    have := OI_gain (n := 120) (by omega) h2
    rw [show zup T 0 8 (T 0 8 - 1) 0 0 = T 0 0 by simp [zup]] at this
    exact this
  · rw [if_neg c1]
    by_cases c2 : a = 3 ∧ T 0 7 = 0 ∧ ¬ tcnt T 0 (nn (T 0 0)) ≤ 1
    · rw [if_pos c2]
      obtain ⟨ha, h6, h7, hs, ⟨b, hb⟩, h5, hst2, hw⟩ := h
      rw [hb]
      have a0 := ha.1.2
      obtain ⟨c, q1, q2⟩ := tcn (T := T) (s := 0) (nn (T 0 0))
      have q3 : 2 ≤ c := by
        have := c2.2.2
        rw [q2, show (1 : Int32) = Int32.ofNat 1 from rfl, i_le (by omega) (by omega)] at this
        omega
      obtain ⟨j, j1, j2, j3⟩ := two_p _ c a0 q2 q1 q3 b
      have k0 : ∀ j, tlvb T (some b) 0 j = T 0 j := fun j => by simp [tlvb, zup]
      have k1 : ∀ j, tlvb T (some b) 1 j = T 1 j := fun j => by simp [tlvb, zup]
      have k2 : tlvb T (some b) 2 j = 0 := by simp [tlvb, zup, j2, j3]
      have ht := twf (T := tlvb T (some b)) (nn (T 0 0)) ⟨j, j1, k2⟩
      refine ⟨tA_same ha (k0 0) (k0 1) (k0 3) (k0 4) (k0 13), ?_⟩
      rw [k0, k0, k0, k0, k0]
      exact ⟨h6, h7, fun j hj => by rw [k1]; exact hs j hj, ht, h5, hst2, hw⟩
    · rw [if_neg c2]
      exact h
theorem trest_OI {V T : zT} {st : Nat} {a : Int32} (h : OI V st T) : OI V st (trest T V (nn (T 0 0)) st a) := by
  unfold trest
  have h2 := OI_trA (a := a) h
  have e0 : trA T (nn (T 0 0)) a 0 0 = T 0 0 := trA_0 (by omega)
  have h3 : OI V st (tgain (trg V st) (nn (T 0 0)) (trA T (nn (T 0 0)) a)) := by
    have g : ∀ n, n ≤ 1000 → OI V st (tgain (Int32.ofNat n) (nn (T 0 0)) (trA T (nn (T 0 0)) a)) := fun n hn => by
      have := OI_gain hn h2
      rw [e0] at this
      exact this
    unfold trg
    split
    · split
      · exact g 15 (by omega)
      · exact g 12 (by omega)
    · exact g 10 (by omega)
  exact h3.same (by simp [sameC, trB, zup])
theorem tst0_OI {V T : zT} {st : Nat} (hst : st < 2000) (h : TI V st T) (h1 : tst0 T st 0 5 = 1) : OI V st (tst0 T st) := by
  obtain ⟨ha, h6, h7, hs, h5, hl, h0, hw⟩ := h
  unfold tst0 at h1 ⊢
  by_cases c : T 0 5 = 0 ∧ T 0 3 = Int32.ofNat st
  · rw [if_pos c]
    obtain ⟨c1, c2⟩ := c
    obtain ⟨z7, z6⟩ := h0 c1
    obtain ⟨l1, b, l2⟩ := hl (Or.inl c1)
    have e : ∀ j, j ≠ 5 → zup (zup T 0 5 1) 4 0 (Int32.ofNat st) 0 j = T 0 j := fun j hj => by simp [zup, hj]
    have e1 : ∀ j, zup (zup T 0 5 1) 4 0 (Int32.ofNat st) 1 j = T 1 j := fun j => by simp [zup]
    have e5 : zup (zup T 0 5 1) 4 0 (Int32.ofNat st) 0 5 = 1 := by simp [zup]
    have et : tweak (zup (zup T 0 5 1) 4 0 (Int32.ofNat st)) (nn (T 0 0)) = some b := by
      rw [← l2]
      exact tweak_eq _ (fun j _ => ⟨by simp [zup], by simp [zup]⟩)
    refine ⟨tA_same ha (e 0 (by omega)) (e 1 (by omega)) (e 3 (by omega)) (e 4 (by omega)) (e 13 (by omega)), ?_⟩
    rw [e 0 (by omega), e 6 (by omega), e 7 (by omega), e 3 (by omega), e5]
    refine ⟨⟨h6, l1⟩, h7, fun j hj => by rw [e1]; exact hs j hj, ⟨b, et⟩, rfl, ?_, ?_⟩
    · rw [c2, nn_of (by omega)]
      exact Nat.le_refl _
    · rw [z7, z6]
      exact Nat.zero_le _
  · rw [if_neg c] at h1 ⊢
    obtain ⟨l1, l2⟩ := hl (Or.inr h1)
    obtain ⟨w1, w2⟩ := hw (by rw [h1]; decide)
    exact ⟨ha, ⟨h6, l1⟩, h7, hs, l2, h1, by omega, w2⟩
theorem tst0_TI {V T : zT} {st : Nat} (h : TI V st T) (h1 : ¬ tst0 T st 0 5 = 1) : TI V (st + 1) (tst0 T st) := by
  unfold tst0 at h1 ⊢
  by_cases c : T 0 5 = 0 ∧ T 0 3 = Int32.ofNat st
  · rw [if_pos c] at h1
    exact absurd (by simp [zup]) h1
  · rw [if_neg c]
    obtain ⟨ha, h6, h7, hs, h5, hl, h0, hw⟩ := h
    exact ⟨ha, h6, h7, hs, h5, hl, h0, fun q => ⟨by have := (hw q).1; omega, by have := (hw q).2; omega⟩⟩
theorem tstp_TI {V T : zT} {L : zPL} {st p : Nat} (hV : WV V) (hst : st < 2000) (h : TI V st T) : TI V (st + 1) (tstp T V L (nn (T 0 0)) (nn (T 0 6)) p st) := by
  unfold tstp
  have e0 : tst0 T st 0 0 = T 0 0 := tst0_0 (by omega)
  have e6 : tst0 T st 0 6 = T 0 6 := tst0_0 (by omega)
  by_cases h1 : tst0 T st 0 5 = 1
  · rw [if_pos h1]
    have h2 := tst0_OI hst h h1
    have h3 : ∀ c, OI V st (zup (tst0 T st) 0 11 c) := fun c => h2.same (by simp [sameC, zup])
    have f0 : ∀ c, zup (tst0 T st) 0 11 c 0 0 = T 0 0 := fun c => (by simp [zup] : zup (tst0 T st) 0 11 c 0 0 = tst0 T st 0 0).trans e0
    have f6 : ∀ c, zup (tst0 T st) 0 11 c 0 6 = T 0 6 := fun c => (by simp [zup] : zup (tst0 T st) 0 11 c 0 6 = tst0 T st 0 6).trans e6
    split
    · have := tgo_TI hV hst (h3 (tdid (tst0 T st) V L (nn (T 0 0)) (nn (T 0 6)) p st))
      rw [f0, f6] at this
      exact this
    · have := trest_OI (a := tact (tst0 T st) V L (nn (T 0 0)) (nn (T 0 6)) p st) (h3 (tdid (tst0 T st) V L (nn (T 0 0)) (nn (T 0 6)) p st))
      rw [f0] at this
      exact OI_TI hst this
  · rw [if_neg h1]
    exact tst0_TI h h1
theorem hon_of {V T : zT} {st : Nat} (hV : WV V) (hst : st < 2000) (h : TI V st T) : tst0 T st 0 5 = 1 → nn (T 0 6) < 12 ∧ (∃ b, tweak (tst0 T st) (nn (T 0 0)) = some b) ∧ (1000 * V 2 (nn (T 0 6)) != 0) = true ∧ ∀ c : Int32, (20 * tcnt (tg3 (zup (tst0 T st) 0 11 c) V (nn (T 0 0)) (nn (T 0 6)) st) 0 (nn (T 0 0)) + tload (tg3 (zup (tst0 T st) 0 11 c) V (nn (T 0 0)) (nn (T 0 6)) st) (nn (T 0 0)) != 0) = true := by
  intro h1
  have h2 := tst0_OI hst h h1
  have e0 : tst0 T st 0 0 = T 0 0 := tst0_0 (by omega)
  have e1 : tst0 T st 0 1 = T 0 1 := tst0_0 (by omega)
  have e6 : tst0 T st 0 6 = T 0 6 := tst0_0 (by omega)
  obtain ⟨ha, ⟨h6, h6l⟩, h7, hs, hb, h5, hst2, hw⟩ := h2
  obtain ⟨wl, -, -, -, wv1, wv, wc⟩ := hV
  have := wl.2
  rw [e6] at h6l
  obtain ⟨v2, v3⟩ := wv _ h6l
  refine ⟨by omega, by rw [← e0]; exact hb, ?_, fun c => ?_⟩
  · rw [v2.1, show (1000 : Int32) = Int32.ofNat 1000 from rfl, i_mulN]
    have := v2.2
    have : Int32.ofNat (1000 * nn (V 2 (nn (T 0 6)))) ≠ 0 := by
      rw [show (0 : Int32) = Int32.ofNat 0 from rfl, Ne, i_eq (by omega) (by omega)]
      omega
    simpa using this
  · have e2 : tg3 (zup (tst0 T st) 0 11 c) V (nn (T 0 0)) (nn (T 0 6)) st 0 1 = T 0 1 := by
      unfold tg3
      rw [tlose_i (by omega) (by omega)]
      have : tg2 (tg1 (zup (tst0 T st) 0 11 c) (nn (T 0 6)) (Int32.ofNat st)) 0 1 = zup (tst0 T st) 0 11 c 0 1 := tg_same.1.2.1
      rw [this]
      exact (by simp [zup] : zup (tst0 T st) 0 11 c 0 1 = tst0 T st 0 1).trans e1
    generalize tg3 (zup (tst0 T st) 0 11 c) V (nn (T 0 0)) (nn (T 0 6)) st = X at *
    have a1 := ha.2.2.2.2.1
    have a2 := ha.2.2.2.2.2
    have a3 := ha.1.2
    rw [e0] at a3
    rw [e1, ← e2] at a1 a2
    obtain ⟨ld, l1, l2, l3⟩ := tln a1 a2 a3
    obtain ⟨k, k1, k2⟩ := tcn (T := X) (s := 0) (nn (T 0 0))
    rw [l1, k2, show (20 : Int32) = Int32.ofNat 20 from rfl, i_mulN, i_add]
    have : Int32.ofNat (20 * k + ld) ≠ 0 := by
      rw [show (0 : Int32) = Int32.ofNat 0 from rfl, Ne, i_eq (by omega) (by omega)]
      omega
    simpa using this
