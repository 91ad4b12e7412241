/-! ===== the pictures when cells are added ===== -/
set_option maxRecDepth 100000
/-- from lo on below m the two memories have the same shape -/
def zGr (lo m : Nat) (S S' : zM) : Prop := ∀ a, lo ≤ a → a < m → mK S' a = mK S a ∧ mN S' a = mN S a ∧ ∀ k, mJ S' a k = mJ S a k
section
variable {S S' : zM} {I J : Nat → Nat → Int32} {B w t lo m : Nat} {G : zGl} {L : zPL}
theorem xTS.gr (h : xTS S t) (hg : zGr lo m S S') (hl : lo ≤ t) (hm : t + 23 ≤ m) : xTS S' t := by
  have eK : ∀ a, lo ≤ a → a < m → mK S' a = mK S a := fun a hl ha => (hg a hl ha).1
  have eN : ∀ a, lo ≤ a → a < m → mN S' a = mN S a := fun a hl ha => (hg a hl ha).2.1
  have eJ : ∀ a k, lo ≤ a → a < m → mJ S' a k = mJ S a k := fun a k hl ha => (hg a hl ha).2.2 k
  obtain ⟨h1, h2, h3, h4, h5, h6, h7⟩ := h
  refine ⟨?_, ?_, ?_, ?_, ?_, ?_, fun k hk => ?_⟩
  · simp (disch := omega) only [eK, eN, eJ]; exact h1
  · simp (disch := omega) only [eK, eN, eJ]; exact h2
  · simp (disch := omega) only [eK, eN, eJ]; exact h3
  · simp (disch := omega) only [eK, eN, eJ]; exact h4
  · simp (disch := omega) only [eK, eN, eJ]; exact h5
  · simp (disch := omega) only [eK, eN, eJ]; exact h6
  · simp (disch := omega) only [eK, eN, eJ]; exact h7 k hk
theorem xTS.n17 (h : xTS S t) {a : Nat} (h1 : t ≤ a) (h2 : a < t + 23) : mK S a ≠ 17 := by
  obtain ⟨⟨t1, t2, t3, t4⟩, ⟨t5, -⟩, ⟨t6, -⟩, ⟨t7, -⟩, ⟨t8, -⟩, ⟨t9, -⟩, t10⟩ := h
  by_cases c2 : a < t + 7
  · rcases (show a = t ∨ a = t + 1 ∨ a = t + 2 ∨ a = t + 3 ∨ a = t + 4 ∨ a = t + 5 ∨ a = t + 6 by omega) with q | q | q | q | q | q | q
    all_goals (rw [q]; omega)
  · have := (t10 (a - (t + 7)) (by omega)).1
    rw [show t + 7 + (a - (t + 7)) = a by omega] at this
    omega
theorem xWT.n17 (h : xWT S w) {a : Nat} (h1 : w ≤ a) (h2 : a < w + 143) : mK S a ≠ 17 := by
  obtain ⟨⟨w0, ⟨wa1, -⟩, ⟨wb1, -⟩, ⟨wc1, -⟩⟩, ⟨w1, -⟩, w4⟩ := h
  by_cases c : a < w + 5
  · rcases (show a = w ∨ a = w + 1 ∨ a = w + 2 ∨ a = w + 3 ∨ a = w + 4 by omega) with q | q | q | q | q
    all_goals (rw [q]; omega)
  · obtain ⟨k, hk, q1, q2⟩ : ∃ k, k < 6 ∧ w + 5 + 23 * k ≤ a ∧ a < w + 5 + 23 * k + 23 := ⟨(a - (w + 5)) / 23, by omega, by omega, by omega⟩
    exact (w4 k hk).1.n17 q1 q2
theorem mTS.gr (h : mTS S t) (hg : zGr lo m S S') (hl : lo ≤ t) (hm : t + 10 ≤ m) : mTS S' t := by
  have eK : ∀ a, lo ≤ a → a < m → mK S' a = mK S a := fun a hl ha => (hg a hl ha).1
  have eN : ∀ a, lo ≤ a → a < m → mN S' a = mN S a := fun a hl ha => (hg a hl ha).2.1
  have eJ : ∀ a k, lo ≤ a → a < m → mJ S' a k = mJ S a k := fun a k hl ha => (hg a hl ha).2.2 k
  unfold mTS at *
  simp (disch := omega) only [eK, eN, eJ]
  exact h
theorem xWT.gr (h : xWT S w) (hg : zGr lo m S S') (hl : lo ≤ w) (hm : w + 143 ≤ m) : xWT S' w := by
  have eK : ∀ a, lo ≤ a → a < m → mK S' a = mK S a := fun a hl ha => (hg a hl ha).1
  have eN : ∀ a, lo ≤ a → a < m → mN S' a = mN S a := fun a hl ha => (hg a hl ha).2.1
  have eJ : ∀ a k, lo ≤ a → a < m → mJ S' a k = mJ S a k := fun a k hl ha => (hg a hl ha).2.2 k
  obtain ⟨h1, h2, h3⟩ := h
  refine ⟨?_, ?_, fun k hk => ⟨(h3 k hk).1.gr hg (by omega) (by omega), ?_⟩⟩
  · unfold xWS at *
    simp (disch := omega) only [eK, eN, eJ]
    exact h1
  · simp (disch := omega) only [eK, eN, eJ]; exact h2
  · simp (disch := omega) only [eJ]; exact (h3 k hk).2
theorem xCS.gr (h : xCS S B) (hK : ∀ a, B ≤ a → a < B + 318 → mK S' a = mK S a ∧ mN S' a = mN S a) (hJ : ∀ a k, B ≤ a → a < B + 314 → ¬ (a = B + 2 ∧ k = 8) → mJ S' a k = mJ S a k) : xCS S' B := by
  have eK : ∀ a, B ≤ a → a < B + 318 → mK S' a = mK S a := fun a hl ha => (hK a hl ha).1
  have eN : ∀ a, B ≤ a → a < B + 318 → mN S' a = mN S a := fun a hl ha => (hK a hl ha).2
  have hg : zGr (B + 5) (B + 314) S S' := fun a hl ha => ⟨eK a (by omega) (by omega), eN a (by omega) (by omega), fun k => hJ a k (by omega) ha (by omega)⟩
  obtain ⟨h1, h2, h3, h4, h5, h6⟩ := h
  refine ⟨?_, ?_, h3.gr hg (by omega) (by omega), h4.gr hg (by omega) (by omega), h5.gr hg (by omega) (by omega), ?_⟩
  · simp (disch := omega) only [eK]; exact h1
  · simp (disch := omega) only [hJ]; exact h2
  · simp (disch := omega) only [eK, eN, hJ]; exact h6
theorem xPT.gr {lo pl np : Nat} (h : xPT S I lo pl np L) (hK : ∀ a, lo ≤ a → a < m → mK S' a = mK S a ∧ mN S' a = mN S a) (hJ : ∀ a k, lo ≤ a → a < m → mJ S' a k = mJ S a k) (hp : ∀ p, p < np → mJ S' pl p = mJ S pl p) (hf : ∀ a k, lo ≤ a → a < m → mK S a ≠ 17 → J a k = I a k) (hz : ∀ a, m ≤ a → mK S a = 0) : xPT S' J lo pl np L := by
  have lt : ∀ a c, mK S a = c → c ≠ 0 → a < m := fun a c h1 h2 => by
    rcases Nat.lt_or_ge a m with q | q
    · exact q
    · exact absurd (h1.symm.trans (hz a q)) h2
  refine ⟨h.1, fun p hp2 => ?_⟩
  obtain ⟨pa, g1, g2, g3, g4, g5, ra, g6, g7, g8, g9, g10⟩ := h.2 p hp2
  have l1 := lt pa 10 g3 (by decide)
  have l2 := lt ra 108 g8 (by decide)
  refine ⟨pa, (hp p hp2).trans g1, g2, (hK _ g2 l1).1.trans g3, (hf _ _ g2 l1 (by omega)).trans g4, g5, ra, g6, (hJ _ _ g2 l1).trans g7, (hK _ g6 l2).1.trans g8, (hK _ g6 l2).2.trans g9, fun r hr => ?_⟩
  obtain ⟨rr, k1, k2, k3, k4, k5, k6, ta, k7, k8, k9, k10, k11⟩ := g10 r hr
  have l3 := lt rr 11 k3 (by decide)
  have l4 := lt ta 107 k9 (by decide)
  refine ⟨rr, (hJ _ _ g6 l2).trans k1, k2, (hK _ k2 l3).1.trans k3, (hf _ _ k2 l3 (by omega)).trans k4, (hf _ _ k2 l3 (by omega)).trans k5, k6, ta, k7, (hJ _ _ k2 l3).trans k8, (hK _ k7 l4).1.trans k9, (hK _ k7 l4).2.trans k10, fun k hk => ?_⟩
  obtain ⟨te, j1, j2, j3, j4, j5, j6⟩ := k11 k hk
  have l5 := lt te 12 j3 (by decide)
  exact ⟨te, (hJ _ _ k7 l4).trans j1, j2, (hK _ j2 l5).1.trans j3, (hf _ _ j2 l5 (by omega)).trans j4, (hf _ _ j2 l5 (by omega)).trans j5, (hf _ _ j2 l5 (by omega)).trans j6⟩
theorem xLw.lt {lo a : Nat} {W : Nat → Int32} (h : xLw S I lo a W) (hz : ∀ a, m ≤ a → mK S a = 0) : a < m ∧ mK S a ≠ 17 := by
  obtain ⟨h2, h3, h4⟩ := h
  constructor
  · rcases Nat.lt_or_ge a m with q | q
    · exact q
    · have := hz a q
      rcases h4 with z | z | z | z <;> exact absurd (z.1.symm.trans this) (by decide)
  · intro q
    rcases h4 with z | z | z | z <;> exact absurd (z.1.symm.trans q) (by decide)
theorem xLT.gr {lo la n : Nat} {W : zT} (h : xLT S I lo la n W) (hK : ∀ a, lo ≤ a → a < m → mK S' a = mK S a) (hp : ∀ p, p < n → mJ S' la p = mJ S la p) (hf : ∀ a k, lo ≤ a → a < m → mK S a ≠ 17 → J a k = I a k) (hz : ∀ a, m ≤ a → mK S a = 0) : xLT S' J lo la n W := by
  refine ⟨h.1, fun i hi => ?_⟩
  obtain ⟨a, h1, hw⟩ := h.2 i hi
  obtain ⟨l, n17⟩ := hw.lt hz
  obtain ⟨h2, h3, h4⟩ := hw
  refine ⟨a, (hp i hi).trans h1, h2, (hf _ _ h2 l n17).trans h3, ?_⟩
  rw [hK a h2 l, hf a 1 h2 l n17, hf a 2 h2 l n17, hf a 3 h2 l n17]
  exact h4
/-- the class's picture when other cells change: its reading cells, garbage of plans and laws, texts; its numbers are new -/
theorem XG.mvU {U' : zT} (h : XG S I B G) (hi : IG G) (hm : B + 466 ≤ m) (hK : ∀ a, B ≤ a → a < m → mK S' a = mK S a ∧ mN S' a = mN S a) (hJ : ∀ a k, B ≤ a → a < m → ¬ (a = B + 2 ∧ k = 8) → a ≠ B + 316 → ¬ (a = B + 314 ∧ gp G ≤ k) → ¬ (a = B + 315 ∧ gn G ≤ k) → mJ S' a k = mJ S a k) (hI : ∀ a k, B ≤ a → a < m → (a < B + 318 ∨ B + 466 ≤ a) → ¬ (B + 2 ≤ a ∧ a ≤ B + 4) → ¬ (a = B ∧ (k = 1 ∨ k = 13 ∨ k = 14 ∨ k = 15)) → a ≠ B + 317 → mK S a ≠ 17 → J a k = I a k) (hz : ∀ a, m ≤ a → mK S a = 0) (hu : J B 1 = U' 0 0 ∧ J B 13 = U' 0 1 ∧ J B 15 = U' 0 2 ∧ J B 14 = U' 0 3) (ht : ∀ j, j < 400 → U' 1 j = gU G 1 j) : XG S' J B (sU G U') := by
  obtain ⟨h1, ⟨⟨s1, s2, s3, s4⟩, s5, s6, s7, s8⟩, h3, h4, h5, h6⟩ := h
  have kB := h1.1
  have k1 := h1.2.2.2.2.2.2.2.2.2.1.2.1
  -- no texts here
  have nt : ∀ a, B + 5 ≤ a → a < B + 314 → mK S a ≠ 17 := by
    intro a l1 l2
    by_cases c : a < B + 148
    · exact h1.2.2.1.n17 l1 (by omega)
    · by_cases c1 : a < B + 291
      · exact h1.2.2.2.1.n17 (by omega) (by omega)
      · exact h1.2.2.2.2.1.n17 (by omega) (by omega)
  have e : ∀ k, ¬ (k = 1 ∨ k = 13 ∨ k = 14 ∨ k = 15) → J B k = I B k := fun k hk => hI B k (by omega) (by omega) (by omega) (by omega) (by omega) (by omega) (by omega)
  refine ⟨h1.gr (fun a l1 l2 => hK a l1 (by omega)) (fun a k l1 l2 l3 => hJ a k l1 (by omega) l3 (by omega) (by omega) (by omega)), ⟨hu, (e 6 (by omega)).trans s5, (e 10 (by omega)).trans s6, (e 11 (by omega)).trans s7, fun j hj => ?_⟩, h3.fr hi.1.1.2.1 hi.1.ok (fun a k l1 l2 => hI a k (by omega) (by omega) (by omega) (by omega) (by omega) (by omega) (nt a (by omega) (by omega))), h4.fr hi.2.1.1.2.1 hi.2.1.ok (fun a k l1 l2 => hI a k (by omega) (by omega) (by omega) (by omega) (by omega) (by omega) (nt a (by omega) (by omega))), h5.gr (m := m) (fun a l1 l2 => hK a (by omega) l2) (fun a k l1 l2 => hJ a k (by omega) l2 (by omega) (by omega) (by omega) (by omega)) (fun p hp => hJ _ _ (by omega) (by omega) (by omega) (by omega) (by omega) (by omega)) (fun a k l1 l2 l3 => hI a k (by omega) l2 (by omega) (by omega) (by omega) (by omega) l3) hz, h6.gr (m := m) (fun a l1 l2 => (hK a (by omega) l2).1) (fun p hp => hJ _ _ (by omega) (by omega) (by omega) (by omega) (by omega) (by omega)) (fun a k l1 l2 l3 => hI a k (by omega) l2 (by omega) (by omega) (by omega) (by omega) l3) hz⟩
  rw [hI (B + 1) j (by omega) (by omega) (by omega) (by omega) (by omega) (by omega) (by omega)]
  exact (s8 j hj).trans (ht j hj).symm
theorem XG.mv (h : XG S I B G) (hi : IG G) (hm : B + 466 ≤ m) (hK : ∀ a, B ≤ a → a < m → mK S' a = mK S a ∧ mN S' a = mN S a) (hJ : ∀ a k, B ≤ a → a < m → mJ S' a k = mJ S a k) (hI : ∀ a k, B ≤ a → a < m → J a k = I a k) (hz : ∀ a, m ≤ a → mK S a = 0) : XG S' J B G := by
  have e : ∀ k, J B k = I B k := fun k => hI B k (by omega) (by omega)
  obtain ⟨⟨s1, s2, s3, s4⟩, -⟩ := h.2.1
  exact h.mvU (U' := gU G) hi hm hK (fun a k l1 l2 _ _ _ _ => hJ a k l1 l2) (fun a k l1 l2 _ _ _ _ _ => hI a k l1 l2) hz ⟨(e 1).trans s1, (e 13).trans s2, (e 15).trans s3, (e 14).trans s4⟩ (fun _ _ => rfl)
theorem mCS.gr (h : mCS S w) (hg : zGr w (w + 148) S S') : mCS S' w := by
  have eK : ∀ a, w ≤ a → a < w + 148 → mK S' a = mK S a := fun a hl ha => (hg a hl ha).1
  have eN : ∀ a, w ≤ a → a < w + 148 → mN S' a = mN S a := fun a hl ha => (hg a hl ha).2.1
  have eJ : ∀ a k, w ≤ a → a < w + 148 → mJ S' a k = mJ S a k := fun a k hl ha => (hg a hl ha).2.2 k
  obtain ⟨⟨a1, a2, a3⟩, ⟨b1, b2, b3, b4, b5⟩, h3, ⟨c1, c2⟩, h5⟩ := h
  refine ⟨⟨?_, ?_, fun k hk => ⟨(a3 k hk).1.gr hg (by omega) (by omega), ?_⟩⟩, ⟨?_, ?_, ?_, ?_, fun k hk => ⟨(b5 k hk).1.gr hg (by omega) (by omega), ?_⟩⟩, ?_, ⟨?_, c2.gr hg (by omega) (by omega)⟩, ?_⟩
  · unfold mWS at *
    simp (disch := omega) only [eK, eN, eJ]
    exact a1
  · simp (disch := omega) only [eK, eN, eJ]; exact a2
  · simp (disch := omega) only [eJ]; exact (a3 k hk).2
  · simp (disch := omega) only [eK, eN, eJ]; exact b1
  · simp (disch := omega) only [eK, eN, eJ]; exact b2
  · simp (disch := omega) only [eK, eN, eJ]; exact b3
  · simp (disch := omega) only [eK, eN, eJ]; exact b4
  · simp (disch := omega) only [eJ]; exact (b5 k hk).2
  · unfold mPS at *
    simp (disch := omega) only [eK, eN, eJ]
    exact h3
  · simp (disch := omega) only [eJ]; exact c1
  · simp (disch := omega) only [eK, eN, eJ]; exact h5
theorem MG.mv (h : MG S I w G) (hi : IG G) (hg : zGr w (w + 148) S S') (hf : ∀ a k, w ≤ a → a < w + 148 → J a k = I a k) : MG S' J w G := by
  have h2 := h.fr (J := J) hi hf
  exact ⟨h.1.gr hg, h2.2⟩
end
