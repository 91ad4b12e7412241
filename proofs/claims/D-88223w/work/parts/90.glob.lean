/-! ===== the whole state, its two pictures ===== -/
set_option maxRecDepth 100000
/-- now, what is kept, whether it is, plans, laws, numbers (row 0: taped, trouble, where, fault; row 1 the tape) -/
abbrev zGl : Type := (zT × (Nat → zT)) × (zT × (Nat → zT)) × Bool × (zPL × Nat) × (zT × Nat) × zT
def gV (G : zGl) : zT := G.1.1
def gT (G : zGl) : Nat → zT := G.1.2
def kV (G : zGl) : zT := G.2.1.1
def kT (G : zGl) : Nat → zT := G.2.1.2
def gh (G : zGl) : Bool := G.2.2.1
def gL (G : zGl) : zPL := G.2.2.2.1.1
def gp (G : zGl) : Nat := G.2.2.2.1.2
def gW (G : zGl) : zT := G.2.2.2.2.1.1
def gn (G : zGl) : Nat := G.2.2.2.2.1.2
def gU (G : zGl) : zT := G.2.2.2.2.2
def sN (G : zGl) (V : zT) (TT : Nat → zT) : zGl := ((V, TT), G.2)
def sU (G : zGl) (U : zT) : zGl := (G.1, G.2.1, G.2.2.1, G.2.2.2.1, G.2.2.2.2.1, U)
def sKp (G : zGl) : zGl := (G.1, G.1, true, G.2.2.2)
def sPl (G : zGl) (L : zPL) (p : Nat) : zGl := (G.1, G.2.1, G.2.2.1, (L, p), G.2.2.2.2)
def sLw (G : zGl) (W : zT) (n : Nat) : zGl := (G.1, G.2.1, G.2.2.1, G.2.2.2.1, (W, n), G.2.2.2.2.2)
/-- trouble and where -/
def gtr (G : zGl) (why wh : Int32) : zGl := sU G (zup (zup (gU G) 0 1 why) 0 2 wh)
def xSc (I : Nat → Nat → Int32) (B : Nat) (G : zGl) : Prop := (I B 1 = gU G 0 0 ∧ I B 13 = gU G 0 1 ∧ I B 15 = gU G 0 2 ∧ I B 14 = gU G 0 3) ∧ (I B 6 = if gh G = true then 1 else 0) ∧ I B 10 = Int32.ofNat (gp G) ∧ I B 11 = Int32.ofNat (gn G) ∧ ∀ j, j < 400 → I (B + 1) j = gU G 1 j
def mSc (I : Nat → Nat → Int32) (w : Nat) (G : zGl) : Prop := (I w 23 = gU G 0 0 ∧ I w 1 = gU G 0 1 ∧ I w 2 = gU G 0 2 ∧ I w 3 = gU G 0 3) ∧ I w 31 = Int32.ofNat (gp G) ∧ I w 38 = Int32.ofNat (gn G) ∧ ∀ j, j < 400 → I (w + 20) j = gU G 1 j
def xLw (S : zM) (I : Nat → Nat → Int32) (lo a : Nat) (W : Nat → Int32) : Prop := lo ≤ a ∧ I a 0 = W 0 ∧ ((mK S a = 14 ∧ W 0 = 0 ∧ I a 1 = W 1 ∧ I a 2 = W 2 ∧ I a 3 = W 2 ∧ W 3 = 0) ∨ (mK S a = 13 ∧ W 0 = 1 ∧ I a 1 = W 1 ∧ I a 2 = W 2 ∧ I a 3 = W 3) ∨ (mK S a = 15 ∧ W 0 = 2 ∧ I a 1 = W 1 ∧ W 2 = 0 ∧ W 3 = 0) ∨ (mK S a = 16 ∧ W 0 = 3 ∧ I a 1 = W 1 ∧ I a 2 = W 2 ∧ W 3 = 0))
def xLT (S : zM) (I : Nat → Nat → Int32) (lo la n : Nat) (W : zT) : Prop := n ≤ 10 ∧ ∀ i, i < n → ∃ a, mJ S la i = some a ∧ xLw S I lo a (W i)
def mLT (I : Nat → Nat → Int32) (w n : Nat) (W : zT) : Prop := ∀ i, i < n → ∀ j, j < 4 → I (w + 27) (4 * i + j) = W i j
/-- the model's objects at their places -/
def mCS (S : zM) (w : Nat) : Prop := mWT S w ∧ mKT S w ∧ mPS S w ∧ (mJ S w 20 = some (w + 9) ∧ mTS S (w + 9)) ∧ (mJ S w 21 = some (w + 19) ∧ mK S (w + 19) = 9) ∧ (mJ S w 22 = some (w + 20) ∧ mK S (w + 20) = 102 ∧ mN S (w + 20) = 400) ∧ mJ S w 39 = some (w + 27) ∧ mK S (w + 27) = 101 ∧ mN S (w + 27) = 44
def WTn (V : zT) (TT : Nat → zT) (np : Nat) : Prop := WT V TT (nn (V 0 2)) np
def IG (G : zGl) : Prop := WTn (gV G) (gT G) (gp G) ∧ WTn (kV G) (kT G) (gp G) ∧ gp G ≤ 8 ∧ gn G ≤ 10 ∧ sm (gU G 0 0) 400
def XG (S : zM) (I : Nat → Nat → Int32) (B : Nat) (G : zGl) : Prop := xCS S B ∧ xSc I B G ∧ xW I (B + 5) (gV G) (gT G) ∧ xW I (B + 148) (kV G) (kT G) ∧ xPT S I (B + 466) (B + 314) (gp G) (gL G) ∧ xLT S I (B + 466) (B + 315) (gn G) (gW G)
def MG (S : zM) (I : Nat → Nat → Int32) (w : Nat) (G : zGl) : Prop := mCS S w ∧ mSc I w G ∧ mW I w (gV G) (gT G) ∧ ((gh G = true → mKW I w (kV G) (kT G)) ∧ (gh G = false → I w 12 = -1)) ∧ (∀ p, p < gp G → mPl I w p (gL G)) ∧ mLT I w (gn G) (gW G)
theorem WT.ok {V : zT} {TT : Nat → zT} {st np : Nat} (h : WT V TT st np) : ∀ k, k < nn (V 0 1) → tOK (TT k) := fun k hk => tOK_of (h.2.2 k hk).1 (h.2.2 k hk).2.1
theorem xLw.fr {S : zM} {I J : Nat → Nat → Int32} {lo a : Nat} {W : Nat → Int32} (h : xLw S I lo a W) (hf : ∀ a k, lo ≤ a → J a k = I a k) : xLw S J lo a W := by
  obtain ⟨h1, h2, h3⟩ := h
  unfold xLw
  rw [hf a 0 h1, hf a 1 h1, hf a 2 h1, hf a 3 h1]
  exact ⟨h1, h2, h3⟩
theorem xLT.fr {S : zM} {I J : Nat → Nat → Int32} {lo la n : Nat} {W : zT} (h : xLT S I lo la n W) (hf : ∀ a k, lo ≤ a → J a k = I a k) : xLT S J lo la n W := ⟨h.1, fun i hi => by
  obtain ⟨a, h1, h2⟩ := h.2 i hi
  exact ⟨a, h1, h2.fr hf⟩⟩
section
variable {S : zM} {I J : Nat → Nat → Int32} {B w : Nat} {G : zGl}
theorem XG.fr (h : XG S I B G) (hi : IG G) (hf : ∀ a k, B ≤ a → (a < B + 318 ∨ B + 466 ≤ a) → J a k = I a k) : XG S J B G := by
  obtain ⟨h1, ⟨⟨s1, s2, s3, s4⟩, s5, s6, s7, s8⟩, h3, h4, h5, h6⟩ := h
  have e : ∀ i, J B i = I B i := fun i => hf B i (by omega) (by omega)
  refine ⟨h1, ?_, h3.fr hi.1.1.2.1 hi.1.ok (fun a k h1 h2 => hf a k (by omega) (by omega)), h4.fr hi.2.1.1.2.1 hi.2.1.ok (fun a k h1 h2 => hf a k (by omega) (by omega)), h5.fr (fun a k h => hf a k (by omega) (by omega)), h6.fr (fun a k h => hf a k (by omega) (by omega))⟩
  unfold xSc
  simp only [e]
  exact ⟨⟨s1, s2, s3, s4⟩, s5, s6, s7, fun j hj => (hf _ _ (by omega) (by omega)).trans (s8 j hj)⟩
theorem MG.fr (h : MG S I w G) (hi : IG G) (hf : ∀ a k, w ≤ a → a < w + 148 → J a k = I a k) : MG S J w G := by
  obtain ⟨h1, ⟨⟨s1, s2, s3, s4⟩, s6, s7, s8⟩, h3, ⟨h4, h4'⟩, h5, h6⟩ := h
  have e : ∀ i, J w i = I w i := fun i => hf w i (by omega) (by omega)
  refine ⟨h1, ?_, h3.fr hi.1.1.2.1 hf, ⟨fun q => (h4 q).fr hi.2.1.1.2.1 hf, fun q => (e 12).trans (h4' q)⟩, fun p hp => (h5 p hp).fr (fun a k h1 h2 => hf a k (by omega) (by omega)), fun i hi j hj => (hf _ _ (by omega) (by omega)).trans (h6 i hi j hj)⟩
  unfold mSc
  simp only [e]
  exact ⟨⟨s1, s2, s3, s4⟩, s6, s7, fun j hj => (hf _ _ (by omega) (by omega)).trans (s8 j hj)⟩
/-- trouble and where alone -/
theorem XG.tr {why wh : Int32} (h : XG S I B G) (hi : IG G) (h13 : J B 13 = why) (h15 : J B 15 = wh) (hf : ∀ a k, B ≤ a → ¬ (a = B ∧ (k = 13 ∨ k = 15)) → a ≠ B + 317 → a ≠ B + 3 → (a < B + 318 ∨ B + 466 ≤ a) → J a k = I a k) : XG S J B (gtr G why wh) := by
  obtain ⟨h1, ⟨⟨s1, s2, s3, s4⟩, s5, s6, s7, s8⟩, h3, h4, h5, h6⟩ := h
  refine ⟨h1, ⟨⟨(hf B 1 (by omega) (by omega) (by omega) (by omega) (by omega)).trans s1, ?_, ?_, (hf B 14 (by omega) (by omega) (by omega) (by omega) (by omega)).trans s4⟩, (hf B 6 (by omega) (by omega) (by omega) (by omega) (by omega)).trans s5, (hf B 10 (by omega) (by omega) (by omega) (by omega) (by omega)).trans s6, (hf B 11 (by omega) (by omega) (by omega) (by omega) (by omega)).trans s7, fun j hj => (hf _ _ (by omega) (by omega) (by omega) (by omega) (by omega)).trans (s8 j hj)⟩, h3.fr hi.1.1.2.1 hi.1.ok (fun a k h1 h2 => hf a k (by omega) (by omega) (by omega) (by omega) (by omega)), h4.fr hi.2.1.1.2.1 hi.2.1.ok (fun a k h1 h2 => hf a k (by omega) (by omega) (by omega) (by omega) (by omega)), h5.fr (fun a k h => hf a k (by omega) (by omega) (by omega) (by omega) (by omega)), h6.fr (fun a k h => hf a k (by omega) (by omega) (by omega) (by omega) (by omega))⟩
  · exact h13
  · exact h15
theorem MG.tr {why wh : Int32} (h : MG S I w G) (hi : IG G) (h1' : J w 1 = why) (h2' : J w 2 = wh) (hf : ∀ a k, w ≤ a → ¬ (a = w ∧ k ≤ 2) → a < w + 148 → J a k = I a k) : MG S J w (gtr G why wh) := by
  obtain ⟨h1, ⟨⟨s1, s2, s3, s4⟩, s6, s7, s8⟩, h3, ⟨h4, h4'⟩, h5, h6⟩ := h
  refine ⟨h1, ⟨⟨(hf _ _ (by omega) (by omega) (by omega)).trans s1, ?_, ?_, (hf _ _ (by omega) (by omega) (by omega)).trans s4⟩, (hf _ _ (by omega) (by omega) (by omega)).trans s6, (hf _ _ (by omega) (by omega) (by omega)).trans s7, fun j hj => (hf _ _ (by omega) (by omega) (by omega)).trans (s8 j hj)⟩, h3.fr' hi.1.1.2.1 (fun a j h1 h2 h3 => hf _ _ (by omega) (by omega) (by omega)), ⟨fun q => (h4 q).fr' hi.2.1.1.2.1 (fun a j h1 h2 h3 => hf _ _ (by omega) (by omega) (by omega)), fun q => (hf _ _ (by omega) (by omega) (by omega)).trans (h4' q)⟩, fun p hp => (h5 p hp).fr (fun a k h1 h2 => hf a k (by omega) (by omega) (by omega)), fun i hi j hj => (hf _ _ (by omega) (by omega) (by omega)).trans (h6 i hi j hj)⟩
  · exact h1'
  · exact h2'
theorem IG.tr {why wh : Int32} (h : IG G) : IG (gtr G why wh) := ⟨h.1, h.2.1, h.2.2.1, h.2.2.2.1, h.2.2.2.2⟩
end
