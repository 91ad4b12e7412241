/-! ===== a call of both sides ===== -/
set_option maxRecDepth 100000
/-- a call of the class in the picture -/
def XO (E : zE) (B y : Nat) (as : List zV) (G : zGl) (v : Int32) (G' : zGl) : Prop := ∀ S I, XG S I B G → xTX E S I B → B + 466 ≤ mS S → (∀ a, mS S ≤ a → mK S a = 0) → (∀ a, B + 318 ≤ a → a < B + 466 → mK S a ≠ 17) → ∃ S' I', zCl E 13 y (zr (some B) :: as) (zwi S I) (Sum.inl (some (zi v)), zwi S' I') ∧ XG S' I' B G' ∧ xFr B 784 3926 S S' I I'
/-- a call of the model in the picture -/
def MO (E : zE) (w y : Nat) (as : List zV) (G : zGl) (v : Int32) (G' : zGl) : Prop := ∀ S I, MG S I w G → xTX E S I w → ∃ g' I', zCl E 13 y (zr (some w) :: as) (zwi S I) (Sum.inl (some (zi v)), zwi (zwg S g') I') ∧ MG (zwg S g') I' w G' ∧ zfI w (w + 148) I I'
theorem XO.op {E : zE} {B y : Nat} {as : List zV} {G G' : zGl} {v : Int32} (h : ∀ S I, XG S I B G → ∃ I', zCl E 13 y (zr (some B) :: as) (zwi S I) (Sum.inl (some (zi v)), zwi S I') ∧ XG S I' B G' ∧ zfI B (B + 318) I I') : XO E B y as G v G' := fun S I hX _ _ hz _ => by
  obtain ⟨I', a, b, c⟩ := h S I hX
  exact ⟨S, I', a, b, ⟨Nat.le_refl _, by omega, by omega⟩, fun _ _ => ⟨rfl, rfl⟩, fun x k hx => ⟨rfl, c x k (by omega)⟩, hz⟩
theorem XO.q {E : zE} {B y : Nat} {as : List zV} {G : zGl} {v : Int32} (h : ∀ S I, XG S I B G → zCl E 13 y (zr (some B) :: as) (zwi S I) (Sum.inl (some (zi v)), zwi S I)) : XO E B y as G v G := fun S I hX _ _ hz _ =>
  ⟨S, I, h S I hX, hX, ⟨Nat.le_refl _, by omega, by omega⟩, fun _ _ => ⟨rfl, rfl⟩, fun _ _ _ => ⟨rfl, rfl⟩, hz⟩
theorem MO.op {E : zE} {w y : Nat} {as : List zV} {G G' : zGl} {v : Int32} (h : ∀ S I, MG S I w G → ∃ I', zCl E 13 y (zr (some w) :: as) (zwi S I) (Sum.inl (some (zi v)), zwi S I') ∧ MG S I' w G' ∧ zfI w (w + 148) I I') : MO E w y as G v G' := fun S I hM _ => by
  obtain ⟨I', a, b, c⟩ := h S I hM
  exact ⟨mG S, I', a, MG.gw b, c⟩
theorem MO.q {E : zE} {w y : Nat} {as : List zV} {G : zGl} {v : Int32} (hi : IG G) (h : ∀ S I, MG S I w G → zCl E 13 y (zr (some w) :: as) (zwi S I) (Sum.inl (some (zi v)), zwi S (zup I w 0 0))) : MO E w y as G v G := fun S I hM _ =>
  ⟨mG S, zup I w 0 0, h S I hM, MG.gw (hM.q0 hi), fun a k hk => zup_k (by omega)⟩
section
variable {E : zE} {B b n w t : Nat} {S S' : zM} {I I' : Nat → Nat → Int32} {G G' : zGl} {s : Nat → Int32}
theorem mTS.n17 (h : mTS S t) {a : Nat} (h1 : t ≤ a) (h2 : a < t + 10) : mK S a ≠ 17 := by
  obtain ⟨p0, ⟨p1, -⟩, ⟨p2, -⟩, ⟨p3, -⟩, ⟨p4, -⟩, ⟨p5, -⟩, ⟨p6, -⟩, ⟨p7, -⟩, ⟨p8, -⟩, ⟨p9, -⟩⟩ := h
  rcases (show a = t ∨ a = t + 1 ∨ a = t + 2 ∨ a = t + 3 ∨ a = t + 4 ∨ a = t + 5 ∨ a = t + 6 ∨ a = t + 7 ∨ a = t + 8 ∨ a = t + 9 by omega) with q | q | q | q | q | q | q | q | q | q
  all_goals (rw [q]; omega)
theorem mCS.n17 (h : mCS S w) {a : Nat} (h1 : w ≤ a) (h2 : a < w + 148) : mK S a ≠ 17 := by
  obtain ⟨⟨⟨w0, ⟨wa, -⟩, ⟨wb, -⟩, ⟨wc, -⟩⟩, ⟨w4, -⟩, ht⟩, ⟨⟨k5, -⟩, ⟨k6, -⟩, ⟨k7, -⟩, ⟨k8, -⟩, hk⟩, ⟨-, ⟨p1, -⟩, ⟨p2, -⟩, ⟨p3, -⟩, ⟨p4, -⟩, ⟨p5, -⟩, ⟨p6, -⟩⟩, ⟨-, ho⟩, ⟨-, q19⟩, ⟨-, q20, -⟩, -, q27, -⟩ := h
  by_cases c1 : a < w + 9
  · rcases (show a = w ∨ a = w + 1 ∨ a = w + 2 ∨ a = w + 3 ∨ a = w + 4 ∨ a = w + 5 ∨ a = w + 6 ∨ a = w + 7 ∨ a = w + 8 by omega) with q | q | q | q | q | q | q | q | q
    all_goals (rw [q]; omega)
  · by_cases c2 : a < w + 19
    · exact ho.n17 (by omega) (by omega)
    · by_cases c3 : a < w + 28
      · rcases (show a = w + 19 ∨ a = w + 20 ∨ a = w + 21 ∨ a = w + 22 ∨ a = w + 23 ∨ a = w + 24 ∨ a = w + 25 ∨ a = w + 26 ∨ a = w + 27 by omega) with q | q | q | q | q | q | q | q | q
        all_goals (rw [q]; omega)
      · obtain ⟨k, hk6, q1, q2⟩ : ∃ k, k < 6 ∧ w + 28 + 20 * k ≤ a ∧ a < w + 28 + 20 * k + 20 := ⟨(a - (w + 28)) / 20, by omega, by omega, by omega⟩
        by_cases c4 : a < w + 28 + 20 * k + 10
        · exact (ht k hk6).1.n17 q1 (by omega)
        · exact (hk k hk6).1.n17 (by omega) (by omega)
theorem xTX.frx {c u : Nat} (h : xTX E S I B) (hf : xFr B c u S S' I I') (hm : B ≤ mS S) : xTX E S' I' B := fun i hi => by
  obtain ⟨-, f1, f2, -⟩ := hf
  obtain ⟨tb, h1, h2, h3, h4, h5, h6, h7, h8⟩ := h i hi
  exact ⟨tb, h1, h2, (f1 _ (by omega)).1.trans h3, (f2 _ _ (Or.inl h1)).1.trans h4, (f2 _ _ (Or.inl h1)).2.trans h5, (f1 _ (by omega)).1.trans h6, (f1 _ (by omega)).2.trans h7, fun j hj => (f2 _ _ (Or.inl h2)).2.trans (h8 j hj)⟩
/-- between two calls -/
def LR (E : zE) (B b n : Nat) (s : Nat → Int32) (S : zM) (I : Nat → Nat → Int32) (G : zGl) : Prop := (XG S I B G ∧ MG S I (B + 318) G) ∧ (IG G ∧ IE G ∧ IL G) ∧ (xTX E S I B ∧ B + 466 ≤ mS S ∧ ∀ a, mS S ≤ a → mK S a = 0) ∧ (b < B ∧ mK S b = 101 ∧ mN S b = n ∧ ∀ j, j < n → I b j = s j)
theorem LR.op {yx ym : Nat} {ax am : List zV} {v : Int32} (h : LR E B b n s S I G) (hx : XO E B yx ax G v G') (hm : MO E (B + 318) ym am G v G') (hg : IG G' ∧ IE G' ∧ IL G') : ∃ S1 I1 S2 I2, zCl E 13 yx (zr (some B) :: ax) (zwi S I) (Sum.inl (some (zi v)), zwi S1 I1) ∧ (mK S1 b = 101 ∧ mN S1 b = n ∧ (∀ j, j < n → I1 b j = s j) ∧ mK S1 (B + 318) = 7) ∧ zCl E 13 ym (zr (some (B + 318)) :: am) (zwi S1 I1) (Sum.inl (some (zi v)), zwi S2 I2) ∧ LR E B b n s S2 I2 G' ∧ mS S2 ≤ mS S + 784 ∧ mU S2 ≤ mU S + 3926 := by
  obtain ⟨⟨hX, hM⟩, ⟨hi, he, hl⟩, ⟨hT, hs, hz⟩, ⟨hb, kb, nb, sb⟩⟩ := h
  have hk : ∀ a, B + 318 ≤ a → a < B + 466 → mK S a ≠ 17 := fun a l1 l2 => hM.1.n17 l1 (by omega)
  obtain ⟨S1, I1, a1, X1, f1⟩ := hx S I hX hT hs hz hk
  have T1 := hT.frx f1 (by omega)
  obtain ⟨⟨g1, g2, g3⟩, g4, g5, g6⟩ := id f1
  have M1 : MG S1 I1 (B + 318) G := hM.mv hi (fun a l1 l2 => ⟨(g4 a (by omega)).1, (g4 a (by omega)).2, fun k => (g5 a k (by omega)).1⟩) (fun a k l1 l2 => (g5 a k (by omega)).2)
  obtain ⟨g', I2, a2, M2, f2⟩ := hm S1 I1 M1 (T1.up (by omega))
  have X2 : XG (zwg S1 g') I2 B G' := X1.fr hg.1 (fun a k l1 l2 => f2 a k (by omega))
  have T2 : xTX E (zwg S1 g') I2 B := T1.frI (fun a k l => f2 a k (by omega))
  refine ⟨S1, I1, zwg S1 g', I2, a1, ⟨(g4 b (by omega)).1.trans kb, (g4 b (by omega)).2.trans nb, fun j hj => (g5 b j (by omega)).2.trans (sb j hj), M1.1.1.1.1⟩, a2, ⟨⟨X2, M2⟩, hg, ⟨T2, by show B + 466 ≤ mS S1; omega, g6⟩, ⟨hb, (g4 b (by omega)).1.trans kb, (g4 b (by omega)).2.trans nb, fun j hj => (f2 b j (by omega)).trans ((g5 b j (by omega)).2.trans (sb j hj))⟩⟩, g2, g3⟩
end
