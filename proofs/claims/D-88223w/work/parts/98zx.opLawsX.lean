/-! ===== laws (class) ===== -/
set_option maxRecDepth 100000
def oLaws (G : zGl) (n : Int32) : Int32 × zGl := if tin n 0 (gU G 0 0) = 0 then (-1, gtr G 2 (-1)) else match pLs (gX G n) (10 - gn G) (gW G) (gn G) 0 with
  | Sum.inl f => (-1, sU G (uTk (gU G) 4 (Int32.ofNat f.2) f.1))
  | Sum.inr r => (Int32.ofNat r.2, sLw (sU G (uTk (gU G) 0 (-1) 0)) r.1 r.2)
def tRow (W : zT) (i : Nat) : Int32 × Int32 × Int32 × Int32 := (W i 0, W i 1, W i 2, W i 3)
theorem tRow_q {W : zT} {n : Nat} {t : Int32 × Int32 × Int32 × Int32} : tRow (wL W n t) n = t := by
  unfold tRow wL
  rw [zup_k (by omega), zup_k (by omega), zup_k (by omega), zup_q, zup_k (by omega), zup_k (by omega), zup_q, zup_k (by omega), zup_q, zup_q]
theorem wL_k {W : zT} {n i : Nat} {t : Int32 × Int32 × Int32 × Int32} (h : i ≠ n) : wL W n t i = W i := by
  unfold wL
  funext j
  rw [zup_k (by omega), zup_k (by omega), zup_k (by omega), zup_k (by omega)]
theorem pLs_lo {X : zTx} : ∀ c n, n + c = 10 → ∀ W e W' n', pLs X c W n e = Sum.inr (W', n') → (∀ i, i < n → W' i = W i) ∧ n ≤ n' ∧ n' ≤ 10 := by
  intro c
  induction c with
  | zero =>
    intro n hn W e W' n' h
    cases h
  | succ c ih =>
    intro n hn W e W' n' h
    unfold pLs at h
    cases q : pLw X e with
    | inl f =>
      rw [q] at h
      cases h
    | inr s =>
      obtain ⟨t, e'⟩ := s
      rw [q] at h
      have h : (if tK X e' = 59 then pLs X c (wL W n t) (n + 1) (tE X e') else if tK X e' = 0 then Sum.inr (wL W n t, n + 1) else Sum.inl (1, kA X e')) = Sum.inr (W', n') := h
      by_cases c1 : tK X e' = 59
      · rw [if_pos c1] at h
        obtain ⟨h1, h2, h3⟩ := ih (n + 1) (by omega) _ _ _ _ h
        exact ⟨fun i hi => (h1 i (by omega)).trans (wL_k (by omega)), by omega, h3⟩
      · rw [if_neg c1] at h
        by_cases c2 : tK X e' = 0
        · rw [if_pos c2] at h
          obtain ⟨rfl, rfl⟩ := Prod.mk.inj (Sum.inr.inj h)
          exact ⟨fun i hi => wL_k (by omega), by omega, by omega⟩
        · rw [if_neg c2] at h
          cases h
/-- the same, but for the fresh laws -/
def lFr (B m c u : Nat) (S S' : zM) (I I' : Nat → Nat → Int32) : Prop := (mS S ≤ mS S' ∧ mS S' ≤ mS S + c ∧ mU S' ≤ mU S + u) ∧ (∀ a, a < m → mK S' a = mK S a ∧ mN S' a = mN S a) ∧ (∀ a k, a < m → ¬ (a = B + 2 ∧ k = 8) → a ≠ B + 316 → mJ S' a k = mJ S a k) ∧ (∀ a k, a < m → ¬ (B + 2 ≤ a ∧ a ≤ B + 4) → (mK S a = 17 → a < B) → I' a k = I a k) ∧ (∀ a, mS S' ≤ a → mK S' a = 0)
theorem rFr.l {B m c u : Nat} {S S' : zM} {I I' : Nat → Nat → Int32} (h : rFr B m c u S S' I I') : lFr B m c u S S' I I' := ⟨h.1, h.2.1, fun a k h1 h2 _ => h.2.2.1 a k h1 h2, h.2.2.2⟩
theorem lFr.tr {B m c u c' u' : Nat} {S S1 S2 : zM} {I I1 I2 : Nat → Nat → Int32} (h : lFr B m c u S S1 I I1) (h' : lFr B m c' u' S1 S2 I1 I2) : lFr B m (c + c') (u + u') S S2 I I2 := by
  obtain ⟨⟨a1, a2, a3⟩, a4, a5, a6, a7⟩ := h
  obtain ⟨⟨b1, b2, b3⟩, b4, b5, b6, b7⟩ := h'
  refine ⟨⟨by omega, by omega, by omega⟩, fun a ha => ⟨(b4 a ha).1.trans (a4 a ha).1, (b4 a ha).2.trans (a4 a ha).2⟩, fun a k ha hk h3 => (b5 a k ha hk h3).trans (a5 a k ha hk h3), fun a k ha hk hr => (b6 a k ha hk (fun q => hr (((a4 a ha).1).symm.trans q))).trans (a6 a k ha hk hr), b7⟩
theorem lFr.wd {B m c u m' c' u' : Nat} {S S' : zM} {I I' : Nat → Nat → Int32} (h : lFr B m c u S S' I I') (h0 : m' ≤ m) (h1 : c ≤ c') (h2 : u ≤ u') : lFr B m' c' u' S S' I I' := by
  obtain ⟨⟨a1, a2, a3⟩, a4, a5, a6, a7⟩ := h
  exact ⟨⟨a1, by omega, by omega⟩, fun a ha => a4 a (by omega), fun a k ha => a5 a k (by omega), fun a k ha => a6 a k (by omega), a7⟩
/-- k fresh laws, from row n of the table on -/
def xFh (S : zM) (I : Nat → Nat → Int32) (B n k : Nat) (W : zT) : Prop := ∀ i, i < k → ∃ a, mJ S (B + 316) i = some a ∧ xLn S I (B + 466) a (tRow W (n + i))
theorem xLn.fr {B m c u lo a : Nat} {t : Int32 × Int32 × Int32 × Int32} {S S' : zM} {I I' : Nat → Nat → Int32} (h : xLn S I lo a t) (hf : lFr B m c u S S' I I') (hm : mS S ≤ m) (hlo : B + 466 ≤ lo) : xLn S' I' lo a t := by
  obtain ⟨h1, h2, h3, h4⟩ := h
  obtain ⟨⟨f1, -, -⟩, f2, -, f4, -⟩ := hf
  have k17 : mK S a ≠ 17 := by
    rcases h4 with z | z | z | z <;> omega
  have e : ∀ i, I' a i = I a i := fun i => f4 a i (by omega) (by omega) (fun q => absurd q k17)
  refine ⟨h1, by omega, (e 0).trans h3, ?_⟩
  rw [(f2 a (by omega)).1, e 1, e 2, e 3]
  exact h4
section
variable {S S' : zM} {I J : Nat → Nat → Int32} {B n k : Nat} {G : zGl} {W : zT}
theorem xFh.fr {m c u : Nat} {I' : Nat → Nat → Int32} (h : xFh S I B n k W) (hf : rFr B m c u S S' I I') (hm : mS S ≤ m) (hB : B + 466 ≤ mS S) : xFh S' I' B n k W := fun i hi => by
  obtain ⟨a, h1, h2⟩ := h i hi
  exact ⟨a, (hf.2.2.1 _ _ (by omega) (by omega)).trans h1, h2.fr hf.l hm (Nat.le_refl _)⟩
theorem XG.rdl {I0 I' : Nat → Nat → Int32} {U' : zT} {c u : Nat} (h : XG S I B G) (hi : IG G) (hm : B + 466 ≤ mS S) (hz : ∀ a, mS S ≤ a → mK S a = 0) (h0 : ∀ a k, ¬ (a = B ∧ (k = 1 ∨ k = 13 ∨ k = 14 ∨ k = 15)) → ¬ (B + 2 ≤ a ∧ a ≤ B + 4) → I0 a k = I a k) (hf : lFr B (mS S) c u S S' I0 I') (hJ : ∀ a k, ¬ (a = B ∧ (k = 1 ∨ k = 13 ∨ k = 14 ∨ k = 15)) → a ≠ B + 317 → J a k = I' a k) (hu : J B 1 = U' 0 0 ∧ J B 13 = U' 0 1 ∧ J B 15 = U' 0 2 ∧ J B 14 = U' 0 3) (ht : ∀ j, j < 400 → U' 1 j = gU G 1 j) : XG S' J B (sU G U') := by
  obtain ⟨f1, f2, f3, f4, f5⟩ := hf
  exact h.mvU hi hm (fun a l1 l2 => f2 a l2) (fun a k l1 l2 l3 l4 _ _ => f3 a k l2 l3 l4) (fun a k l1 l2 l3 l4 l5 l6 l7 => (hJ a k l5 l6).trans ((f4 a k l2 l4 (fun q => absurd q l7)).trans (h0 a k l5 l4))) hz hu ht
theorem xFr.rdl {I0 I' : Nat → Nat → Int32} {c u : Nat} (hm : B + 466 ≤ mS S) (hk : ∀ a, B + 318 ≤ a → a < B + 466 → mK S a ≠ 17) (h0 : ∀ a k, ¬ (a = B ∧ (k = 1 ∨ k = 13 ∨ k = 14 ∨ k = 15)) → ¬ (B + 2 ≤ a ∧ a ≤ B + 4) → I0 a k = I a k) (hf : lFr B (mS S) c u S S' I0 I') (hJ : ∀ a k, ¬ (a = B ∧ (k = 1 ∨ k = 13 ∨ k = 14 ∨ k = 15)) → a ≠ B + 317 → J a k = I' a k) : xFr B c u S S' I J := by
  obtain ⟨f1, f2, f3, f4, f5⟩ := hf
  refine ⟨f1, f2, fun a k ha => ⟨f3 a k (by omega) (by omega) (by omega), ?_⟩, f5⟩
  refine (hJ a k (by omega) (by omega)).trans ((f4 a k (by omega) (by omega) (fun q => ?_)).trans (h0 a k (by omega) (by omega)))
  rcases ha with ha | ha
  · exact ha
  · exact absurd q (hk a ha.1 ha.2)
/-- laws more -/
theorem XG.lw (h : XG S I B G) (hi : IG G) (hF : xFh S I B (gn G) k W) (hW : ∀ i, i < gn G → W i = gW G i) (hn : gn G + k ≤ 10) : XG (zcJ S (B + 316) (B + 315) 0 (gn G) k) (zup I B 11 (Int32.ofNat (gn G + k))) B (sLw G W (gn G + k)) := by
  obtain ⟨h1, ⟨⟨s1, s2, s3, s4⟩, s5, s6, s7, s8⟩, h3, h4, h5, h6⟩ := h
  have J0 : ∀ a i, mJ (zcJ S (B + 316) (B + 315) 0 (gn G) k) a i = if a = B + 315 ∧ gn G ≤ i ∧ i < gn G + k then mJ S (B + 316) (0 + (i - gn G)) else mJ S a i := fun _ _ => rfl
  have J1 : ∀ a i, ¬ (a = B + 315 ∧ gn G ≤ i) → mJ (zcJ S (B + 316) (B + 315) 0 (gn G) k) a i = mJ S a i := fun a i q => by rw [J0, if_neg (by omega)]
  have I1 : ∀ a i, ¬ (a = B ∧ i = 11) → zup I B 11 (Int32.ofNat (gn G + k)) a i = I a i := fun a i q => zup_k q
  refine ⟨h1.gr (fun _ _ _ => ⟨rfl, rfl⟩) (fun a i l1 l2 _ => J1 a i (by omega)), ⟨⟨(I1 _ _ (by omega)).trans s1, (I1 _ _ (by omega)).trans s2, (I1 _ _ (by omega)).trans s3, (I1 _ _ (by omega)).trans s4⟩, (I1 _ _ (by omega)).trans s5, (I1 _ _ (by omega)).trans s6, zup_q _ _ _ _, fun j hj => (I1 _ _ (by omega)).trans (s8 j hj)⟩, h3.fr hi.1.1.2.1 hi.1.ok (fun a i l1 l2 => I1 a i (by omega)), h4.fr hi.2.1.1.2.1 hi.2.1.ok (fun a i l1 l2 => I1 a i (by omega)), ⟨h5.1, fun p hp => ?_⟩, ⟨hn, fun i hi2 => ?_⟩⟩
  · obtain ⟨p', q1, q2⟩ := h5.2 p hp
    exact ⟨p', (J1 _ _ (by omega)).trans q1, q2.fx (fun a i l => J1 a i (by omega)) rfl rfl (fun a i l => I1 a i (by omega))⟩
  · have hi2 : i < gn G + k := hi2
    by_cases q : i < gn G
    · obtain ⟨a, q1, q2⟩ := h6.2 i q
      refine ⟨a, (J1 _ _ (by omega)).trans q1, ?_⟩
      have q3 := q2.fr (J := zup I B 11 (Int32.ofNat (gn G + k))) (fun a k l => I1 a k (by omega))
      show xLw S (zup I B 11 (Int32.ofNat (gn G + k))) (B + 466) a (W i)
      rw [hW i q]
      exact q3
    · obtain ⟨a, q1, q2, q3, q4, q5⟩ := hF (i - gn G) (by omega)
      refine ⟨a, ?_, ?_⟩
      · rw [J0, if_pos (by omega), Nat.zero_add]
        exact q1
      · rw [show gn G + (i - gn G) = i by omega] at q4 q5
        have e : ∀ j, zup I B 11 (Int32.ofNat (gn G + k)) a j = I a j := fun j => I1 a j (by omega)
        refine ⟨q2, (e 0).trans q4, ?_⟩
        rw [e 1, e 2, e 3]
        exact q5
end
section
variable {E : zE} {d B n0 : Nat} {S : zM} {I : Nat → Nat → Int32} {G : zGl} {n : Int32} {X : zTx}
theorem lp_X0_laws (hB : E.1 ≤ B) : ∀ c k, n0 + k + c = 10 → ∀ W e S I (u4 : Option zV), xRD E S I B X e → (mK S B = 1 ∧ mJ S B 2 = some (B + 2) ∧ mJ S B 9 = some (B + 316) ∧ mK S (B + 316) = 110 ∧ mN S (B + 316) = 10 ∧ I B 11 = Int32.ofNat n0) → xFh S I B n0 k W → (∀ f p, pLs X c W (n0 + k) e = Sum.inl (f, p) → ∃ S' I' k' v' u', (∀ z, zAt E (d + 9) 41 129 [some (zr (some B)), some (zi n), some (zi k'), some (zi v'), u'] [zr (some (B + 3))] (zwi S' I') z → zAt E (d + 9) 41 14 [some (zr (some B)), some (zi n), some (zi (Int32.ofNat k)), some (zi 1), u4] [] (zwi S I) z) ∧ xTh I' B f p ∧ lFr B (mS S) (20 * (c + 1)) (100 * (c + 1)) S S' I I') ∧ (∀ W' n', pLs X c W (n0 + k) e = Sum.inr (W', n') → ∃ S' I' u', (∀ z, zAt E (d + 9) 41 144 [some (zr (some B)), some (zi n), some (zi (Int32.ofNat (n' - n0))), some (zi 0), u'] [] (zwi S' I') z → zAt E (d + 9) 41 14 [some (zr (some B)), some (zi n), some (zi (Int32.ofNat k)), some (zi 1), u4] [] (zwi S I) z) ∧ xFh S' I' B n0 (n' - n0) W' ∧ lFr B (mS S) (20 * (c + 1)) (100 * (c + 1)) S S' I I') := by
  have e14 := @b_X0_laws_14
  have e54 := @b_X0_laws_54
  have e58 := @b_X0_laws_58
  have e59 := @b_X0_laws_59
  have e85 := @b_X0_laws_85
  have e86 := @b_X0_laws_86
  have e90 := @b_X0_laws_90
  have e119 := @b_X0_laws_119
  -- what begins a law
  have hd : ∀ e S I (k2 : Int32) (u4 : Option zV), xRD E S I B X e → mK S B = 1 → mJ S B 2 = some (B + 2) → ∃ b0 : Int32, (b0 = if iw X e 5 = 0 then (if iw X e 10 = 0 then (if iw X e 18 = 0 then 0 else 1) else 1) else 1) ∧ ∀ z, zAt E (d + 9) 41 59 [some (zr (some B)), some (zi n), some (zi k2), some (zi 1), u4] [zi b0] (zwi S I) z → zAt E (d + 9) 41 14 [some (zr (some B)), some (zi n), some (zi k2), some (zi 1), u4] [] (zwi S I) z := by
    intro e S I k2 u4 hR b0 b2
    have bk2 := hR.1.2.1
    have c5 := sp_X1_isWord (E := E) (d := d + 6) hR (i := 5) (by decide)
    have c10 := sp_X1_isWord (E := E) (d := d + 6) hR (i := 10) (by decide)
    have c18 := sp_X1_isWord (E := E) (d := d + 6) hR (i := 18) (by decide)
    refine ⟨_, rfl, fun z hz => ?_⟩
    by_cases h5 : iw X e 5 = 0
    · rw [if_pos h5] at hz
      by_cases h10 : iw X e 10 = 0
      · rw [if_pos h10] at hz
        by_cases h18 : iw X e 18 = 0
        · rw [if_pos h18] at hz
          refine zat_in zP_X0_laws zk_X0_laws_14 ?_
          simp (disch := omega) only [e14, zif, zdr, zkb, mK_wi, mN_wi, mJ_wi, mI_wi, sI_wi, beq_self_eq_true, Bool.true_or, Bool.or_true, Bool.or_false, Bool.and_self, Bool.and_true, Bool.true_and, ↓reduceIte, ble_up0, i_cl, i_succ, zix_of, zfl_k, zup_k, zup_q, i10, b0, b2, bk2]
          refine ev_ci c5 ?_
          refine ev_th _ (fun _ => ?_) (fun h => absurd h5 h)
          simp (disch := omega) only [zif, zdr, zkb, mK_wi, mN_wi, mJ_wi, mI_wi, sI_wi, beq_self_eq_true, Bool.true_or, Bool.or_true, Bool.or_false, Bool.and_self, Bool.and_true, Bool.true_and, ↓reduceIte, ble_up0, i_cl, i_succ, zix_of, zfl_k, zup_k, zup_q, b0, b2, bk2]
          refine ev_ci c10 ?_
          refine ev_th _ (fun _ => ?_) (fun h => absurd h10 h)
          simp (disch := omega) only [zif, zdr, zkb, mK_wi, mN_wi, mJ_wi, mI_wi, sI_wi, beq_self_eq_true, Bool.true_or, Bool.or_true, Bool.or_false, Bool.and_self, Bool.and_true, Bool.true_and, ↓reduceIte, ble_up0, i_cl, i_succ, zix_of, zfl_k, zup_k, zup_q, b0, b2, bk2]
          refine ev_ci c18 ?_
          refine ev_th _ (fun _ => ?_) (fun h => absurd h18 h)
          refine ev_bk ?_
          refine zat_in zP_X0_laws zk_X0_laws_58 ?_
          simp only [e58]
          exact ev_tl zP_X0_laws zk_X0_laws_59 hz
        · rw [if_neg h18] at hz
          refine zat_in zP_X0_laws zk_X0_laws_14 ?_
          simp (disch := omega) only [e14, zif, zdr, zkb, mK_wi, mN_wi, mJ_wi, mI_wi, sI_wi, beq_self_eq_true, Bool.true_or, Bool.or_true, Bool.or_false, Bool.and_self, Bool.and_true, Bool.true_and, ↓reduceIte, ble_up0, i_cl, i_succ, zix_of, zfl_k, zup_k, zup_q, i10, b0, b2, bk2]
          refine ev_ci c5 ?_
          refine ev_th _ (fun _ => ?_) (fun h => absurd h5 h)
          simp (disch := omega) only [zif, zdr, zkb, mK_wi, mN_wi, mJ_wi, mI_wi, sI_wi, beq_self_eq_true, Bool.true_or, Bool.or_true, Bool.or_false, Bool.and_self, Bool.and_true, Bool.true_and, ↓reduceIte, ble_up0, i_cl, i_succ, zix_of, zfl_k, zup_k, zup_q, b0, b2, bk2]
          refine ev_ci c10 ?_
          refine ev_th _ (fun _ => ?_) (fun h => absurd h10 h)
          simp (disch := omega) only [zif, zdr, zkb, mK_wi, mN_wi, mJ_wi, mI_wi, sI_wi, beq_self_eq_true, Bool.true_or, Bool.or_true, Bool.or_false, Bool.and_self, Bool.and_true, Bool.true_and, ↓reduceIte, ble_up0, i_cl, i_succ, zix_of, zfl_k, zup_k, zup_q, b0, b2, bk2]
          refine ev_ci c18 ?_
          refine ev_th _ (fun h => absurd h h18) (fun _ => ?_)
          refine ev_tl zP_X0_laws zk_X0_laws_54 ?_
          refine zat_in zP_X0_laws zk_X0_laws_54 ?_
          simp only [e54]
          exact ev_bk hz
      · rw [if_neg h10] at hz
        refine zat_in zP_X0_laws zk_X0_laws_14 ?_
        simp (disch := omega) only [e14, zif, zdr, zkb, mK_wi, mN_wi, mJ_wi, mI_wi, sI_wi, beq_self_eq_true, Bool.true_or, Bool.or_true, Bool.or_false, Bool.and_self, Bool.and_true, Bool.true_and, ↓reduceIte, ble_up0, i_cl, i_succ, zix_of, zfl_k, zup_k, zup_q, i10, b0, b2, bk2]
        refine ev_ci c5 ?_
        refine ev_th _ (fun _ => ?_) (fun h => absurd h5 h)
        simp (disch := omega) only [zif, zdr, zkb, mK_wi, mN_wi, mJ_wi, mI_wi, sI_wi, beq_self_eq_true, Bool.true_or, Bool.or_true, Bool.or_false, Bool.and_self, Bool.and_true, Bool.true_and, ↓reduceIte, ble_up0, i_cl, i_succ, zix_of, zfl_k, zup_k, zup_q, b0, b2, bk2]
        refine ev_ci c10 ?_
        refine ev_th _ (fun h => absurd h h10) (fun _ => ?_)
        refine ev_bk ?_
        refine zat_in zP_X0_laws zk_X0_laws_54 ?_
        simp only [e54]
        exact ev_bk hz
    · rw [if_neg h5] at hz
      refine zat_in zP_X0_laws zk_X0_laws_14 ?_
      simp (disch := omega) only [e14, zif, zdr, zkb, mK_wi, mN_wi, mJ_wi, mI_wi, sI_wi, beq_self_eq_true, Bool.true_or, Bool.or_true, Bool.or_false, Bool.and_self, Bool.and_true, Bool.true_and, ↓reduceIte, ble_up0, i_cl, i_succ, zix_of, zfl_k, zup_k, zup_q, i10, b0, b2, bk2]
      refine ev_ci c5 ?_
      refine ev_th _ (fun h => absurd h h5) (fun _ => ?_)
      refine ev_bk ?_
      refine zat_in zP_X0_laws zk_X0_laws_54 ?_
      simp only [e54]
      exact ev_bk hz
  intro c
  induction c with
  | zero =>
    intro k hk W e S I u4 hR ⟨b0, b2, b9, bk9, bn9, e11⟩ hF
    have bk2 := hR.1.2.1
    have brk0 := hR.1.2.2.1.2
    refine ⟨fun f p h => ?_, fun W' n' h => by cases h⟩
    obtain ⟨hf, rfl⟩ := Prod.mk.inj (Sum.inl.inj h)
    obtain ⟨v0, hv0, st⟩ := hd e S I (Int32.ofNat k) u4 hR b0 b2
    obtain ⟨I1, a1, b1, f1⟩ := sp_X1_fail (E := E) (d := d + 6) (f := f) hB hR
    have d10 : (Int32.ofNat n0 + Int32.ofNat k = 10) = True := by
      rw [i_addN, show n0 + k = 10 by omega]
      exact eq_true rfl
    refine ⟨S, I1, Int32.ofNat k, 1, some (zi v0), fun z hz => st z ?_, b1, f1.l.wd (Nat.le_refl _) (by omega) (by omega)⟩
    have g86 : zAt E (d + 9) 41 86 [some (zr (some B)), some (zi n), some (zi (Int32.ofNat k)), some (zi 1), some (zi v0)] [zi f, zr (some (B + 2))] (zwi S I) z := by
      refine zat_in zP_X0_laws zk_X0_laws_86 ?_
      simp (disch := omega) only [e86, zif, zdr, zkb, mK_wi, mN_wi, mJ_wi, mI_wi, sI_wi, beq_self_eq_true, Bool.true_or, Bool.or_true, Bool.or_false, Bool.and_self, Bool.and_true, Bool.true_and, ↓reduceIte, ble_up0, i_cl, i_succ, zix_of, zfl_k, zup_k, zup_q, bk2]
      refine ev_cr a1 ?_
      try simp (disch := omega) only [zif, zdr, zkb, mK_wi, mN_wi, mJ_wi, mI_wi, sI_wi, beq_self_eq_true, Bool.true_or, Bool.or_true, Bool.or_false, Bool.and_self, Bool.and_true, Bool.true_and, ↓reduceIte, ble_up0, i_cl, i_succ, zix_of, zfl_k, zup_k, zup_q, brk0]
      exact ev_bk hz
    have hcase : (v0 = 0 ∧ f = 1) ∨ (v0 ≠ 0 ∧ f = 3) := by
      rw [hv0, ← hf]
      by_cases h5 : iw X e 5 = 0
      · rw [if_pos h5, if_pos h5]
        by_cases h10 : iw X e 10 = 0
        · rw [if_pos h10, if_pos h10]
          by_cases h18 : iw X e 18 = 0
          · rw [if_pos h18, if_pos h18]
            exact Or.inl ⟨rfl, rfl⟩
          · rw [if_neg h18, if_neg h18]
            exact Or.inr ⟨by decide, rfl⟩
        · rw [if_neg h10, if_neg h10]
          exact Or.inr ⟨by decide, rfl⟩
      · rw [if_neg h5, if_neg h5]
        exact Or.inr ⟨by decide, rfl⟩
    rcases hcase with ⟨q1, q2⟩ | ⟨q1, q2⟩
    · have q1' := eq_true q1
      refine zat_in zP_X0_laws zk_X0_laws_59 ?_
      simp (disch := omega) only [e59, zif, zdr, zkb, mK_wi, mN_wi, mJ_wi, mI_wi, sI_wi, beq_self_eq_true, Bool.true_or, Bool.or_true, Bool.or_false, Bool.and_self, Bool.and_true, Bool.true_and, ↓reduceIte, ble_up0, i_cl, i_succ, zix_of, zfl_k, zup_k, zup_q, b0, e11, d10, q1', b2]
      refine ev_bk ?_
      refine zat_in zP_X0_laws zk_X0_laws_85 ?_
      simp only [e85]
      rw [q2] at g86
      exact ev_tl zP_X0_laws zk_X0_laws_86 g86
    · have q1' := eq_false q1
      refine zat_in zP_X0_laws zk_X0_laws_59 ?_
      simp (disch := omega) only [e59, zif, zdr, zkb, mK_wi, mN_wi, mJ_wi, mI_wi, sI_wi, beq_self_eq_true, Bool.true_or, Bool.or_true, Bool.or_false, Bool.and_self, Bool.and_true, Bool.true_and, ↓reduceIte, ble_up0, i_cl, i_succ, zix_of, zfl_k, zup_k, zup_q, b0, e11, d10, q1', b2]
      rw [q2] at g86
      exact ev_bk g86
  | succ c ih =>
    intro k hk W e S I u4 hR ⟨b0, b2, b9, bk9, bn9, e11⟩ hF
    have hm := hR.2.2.2.1
    obtain ⟨v0, hv0, st⟩ := hd e S I (Int32.ofNat k) u4 hR b0 b2
    have d10 : (Int32.ofNat n0 + Int32.ofNat k = 10) = False := by
      rw [i_addN, show (10 : Int32) = Int32.ofNat 10 from rfl, i_eq (by omega) (by omega)]
      exact eq_false (by omega)
    have st90 : ∀ z, zAt E (d + 9) 41 90 [some (zr (some B)), some (zi n), some (zi (Int32.ofNat k)), some (zi 1), some (zi v0)] [] (zwi S I) z → zAt E (d + 9) 41 14 [some (zr (some B)), some (zi n), some (zi (Int32.ofNat k)), some (zi 1), u4] [] (zwi S I) z := by
      intro z hz
      refine st z ?_
      refine zat_in zP_X0_laws zk_X0_laws_59 ?_
      simp (disch := omega) only [e59, zif, zdr, zkb, mK_wi, mN_wi, mJ_wi, mI_wi, sI_wi, beq_self_eq_true, Bool.true_or, Bool.or_true, Bool.or_false, Bool.and_self, Bool.and_true, Bool.true_and, ↓reduceIte, ble_up0, i_cl, i_succ, zix_of, zfl_k, zup_k, zup_q, b0, e11, d10]
      exact ev_bk hz
    obtain ⟨x1, x2⟩ := sp_X0_lawOf (d := d + 1) hB hR
    cases q : pLw X e with
    | inl s =>
      have hq : pLs X (c + 1) W (n0 + k) e = Sum.inl s := by
        unfold pLs
        rw [q]
      rw [hq]
      refine ⟨fun f p h => ?_, fun W' n' h => by cases h⟩
      obtain ⟨S1, I1, a1, t1, f1⟩ := x1 f p (q.trans (congrArg Sum.inl (Sum.inl.inj h)))
      have kq : mK S1 (B + 3) = 3 := (f1.2.1 _ (by omega)).1.trans hR.1.2.2.1.2
      refine ⟨S1, I1, Int32.ofNat k, 1, some (zi v0), fun z hz => st90 z ?_, t1, f1.l.wd (Nat.le_refl _) (by omega) (by omega)⟩
      refine zat_in zP_X0_laws zk_X0_laws_90 ?_
      simp (disch := omega) only [e90, zif, zdr, zkb, mK_wi, mN_wi, mJ_wi, mI_wi, sI_wi, beq_self_eq_true, Bool.true_or, Bool.or_true, Bool.or_false, Bool.and_self, Bool.and_true, Bool.true_and, ↓reduceIte, ble_up0, i_cl, i_succ, zix_of, zfl_k, zup_k, zup_q, b0, b2]
      refine ev_crx a1 ?_
      try simp (disch := omega) only [zif, zdr, zkb, mK_wi, mN_wi, mJ_wi, mI_wi, sI_wi, beq_self_eq_true, Bool.true_or, Bool.or_true, Bool.or_false, Bool.and_self, Bool.and_true, Bool.true_and, ↓reduceIte, ble_up0, i_cl, i_succ, zix_of, zfl_k, zup_k, zup_q, kq]
      exact ev_bk hz
    | inr s =>
      obtain ⟨t, e'⟩ := s
      obtain ⟨S1, I1, a, a1, R1, L1, f1⟩ := x2 t e' q
      have m1 := f1.1.1
      have F1 := hF.fr f1 (Nat.le_refl _) hm
      have kB := (f1.2.1 B (by omega)).1.trans b0
      have jB2 := (f1.2.2.1 B 2 (by omega) (by omega)).trans b2
      have jB9 := (f1.2.2.1 B 9 (by omega) (by omega)).trans b9
      have k9 := (f1.2.1 (B + 316) (by omega)).1.trans bk9
      have n9 := (f1.2.1 (B + 316) (by omega)).2.trans bn9
      have e11' : I1 B 11 = Int32.ofNat n0 := (f1.2.2.2.1 B 11 (by omega) (by omega) (fun q => by rw [b0] at q; omega)).trans e11
      have ka : zkb (mK S1 a) [13, 14, 15, 16] = true := by
        rcases L1.2.2.2 with z | z | z | z <;> (rw [z.1]; rfl)
      have ka' : (mK S1 a == 13 || (mK S1 a == 14 || (mK S1 a == 15 || mK S1 a == 16))) = true := by
        rcases L1.2.2.2 with z | z | z | z <;> (rw [z.1]; rfl)
      -- it is put among the fresh
      have J2 : ∀ x i, mJ (sJ S1 (B + 316) k (some a)) x i = if x = B + 316 ∧ i = k then some a else mJ S1 x i := fun _ _ => rfl
      have R2 : xRD E (sJ S1 (B + 316) k (some a)) I1 B X e' := by
        obtain ⟨⟨y1, y2, ⟨y3, y4⟩, y5, y6, y7⟩, T, ⟨y8, y9, y10, y11, y12, y13⟩, y14, y15, y16⟩ := R1
        have j : ∀ x i, x ≠ B + 316 → mJ (sJ S1 (B + 316) k (some a)) x i = mJ S1 x i := fun x i h => by rw [J2, if_neg (by omega)]
        refine ⟨⟨y1, y2, ⟨(j _ _ (by omega)).trans y3, y4⟩, (j _ _ (by omega)).trans y5, (j _ _ (by omega)).trans y6, y7⟩, fun i hi => ?_, ⟨y8, y9, y10, y11, y12, fun h => ?_⟩, y14, y15, y16⟩
        · obtain ⟨tb, t1, t2, t3, t4, t5⟩ := T i hi
          exact ⟨tb, t1, t2, t3, (j _ _ (by omega)).trans t4, t5⟩
        · obtain ⟨s, sb, w1, w2, w3, w4, ⟨w5, w6, w7⟩, w8⟩ := y13 h
          exact ⟨s, sb, (j _ _ (by omega)).trans w1, w2, w3, w4, ⟨w5, (j _ _ (by omega)).trans w6, w7⟩, w8⟩
      have f2 : lFr B (mS S) 0 0 S1 (sJ S1 (B + 316) k (some a)) I1 I1 := ⟨⟨Nat.le_refl _, Nat.le_refl _, Nat.le_refl _⟩, fun _ _ => ⟨rfl, rfl⟩, fun x i _ _ h => by rw [J2, if_neg (by omega)], fun _ _ _ _ _ => rfl, R1.2.2.2.2.1⟩
      have F2 : xFh (sJ S1 (B + 316) k (some a)) I1 B n0 (k + 1) (wL W (n0 + k) t) := by
        intro i hi
        by_cases z : i = k
        · subst z
          refine ⟨a, ?_, ?_⟩
          · rw [J2, if_pos ⟨rfl, rfl⟩]
          · rw [tRow_q]
            exact ⟨by have := L1.1; omega, L1.2.1, L1.2.2⟩
        · obtain ⟨a', q1, q2⟩ := F1 i (by omega)
          refine ⟨a', ?_, ?_⟩
          · rw [J2, if_neg (by omega)]
            exact q1
          · unfold tRow at q2 ⊢
            rw [wL_k (by omega)]
            exact q2
      have fA := (f1.l.tr f2)
      have bk2' := R2.1.2.1
      have brk2 := R2.1.2.2.1.2
      have hz10 : zix (Int32.ofNat k) 10 = true := zix_of (by omega) (by omega)
      have J2' : mJ (sJ S1 (B + 316) k (some a)) B 2 = some (B + 2) := by
        rw [J2, if_neg (by omega)]
        exact jB2
      have st90b : ∀ z, zEv (fun n1 => zci (zcfX E zPm n1 (d + 9) 80 [zr (some (B + 2)), zi 59] (zwi (sJ S1 (B + 316) k (some a)) I1)) (fun q9 M10 => zif (mK M10 q9 == 3) (zX E zPm n1 (d + 9) 41 129 [some (zr (some B)), some (zi n), some (zi (Int32.ofNat (k + 1))), some (zi 1), some (zi v0)] [zr (some q9)] M10)) (fun x11 M8 => zX E zPm n1 (d + 9) 41 14 [some (zr (some B)), some (zi n), some (zi (Int32.ofNat (k + 1))), some (zi x11), some (zi v0)] [] M8)) z → zAt E (d + 9) 41 14 [some (zr (some B)), some (zi n), some (zi (Int32.ofNat k)), some (zi 1), u4] [] (zwi S I) z := by
        intro z hz
        refine st90 z ?_
        refine zat_in zP_X0_laws zk_X0_laws_90 ?_
        simp (disch := omega) only [e90, zif, zdr, zkb, mK_wi, mN_wi, mJ_wi, mI_wi, sI_wi, beq_self_eq_true, Bool.true_or, Bool.or_true, Bool.or_false, Bool.and_self, Bool.and_true, Bool.true_and, ↓reduceIte, ble_up0, i_cl, i_succ, zix_of, zfl_k, zup_k, zup_q, b0, b2]
        refine ev_cr a1 ?_
        have b9' : mJ (zwi S I) B 9 = some (B + 316) := b9
        simp (disch := omega) only [zif, zdr, zkb, mK_wi, mN_wi, mJ_wi, mI_wi, sI_wi, beq_self_eq_true, Bool.true_or, Bool.or_true, Bool.or_false, Bool.and_self, Bool.and_true, Bool.true_and, ↓reduceIte, ble_up0, i_cl, i_succ, zix_of, zfl_k, zup_k, zup_q, b9, kB, k9, n9, ka', hz10, sJ_wi, mK_sJ, J2', bk2']
        simp only [zif, zdr, zkb, mK_wi, mN_wi, mJ_wi, mI_wi, sI_wi, beq_self_eq_true, Bool.true_or, Bool.or_true, Bool.or_false, Bool.and_self, Bool.and_true, Bool.true_and, ↓reduceIte, ble_up0, i_cl, i_succ, zix_of, zfl_k, zup_k, zup_q] at hz
        exact hz
      by_cases c1 : tK X e' = 59
      · have hq : pLs X (c + 1) W (n0 + k) e = pLs X c (wL W (n0 + k) t) (n0 + (k + 1)) (tE X e') := by
          conv => lhs; unfold pLs
          rw [q]
          show (if tK X e' = 59 then _ else _) = _
          rw [if_pos c1]
          rfl
        rw [hq]
        obtain ⟨S3, I3, a3, R3, f3⟩ := sp_X1_sign_1 (d := d + 3) hB R2 c1
        have m3 := f3.1.1
        have ms2 : mS (sJ S1 (B + 316) k (some a)) = mS S1 := rfl
        have F3 := F2.fr f3 (Nat.le_refl _) (by omega)
        have j : ∀ x i, x ≠ B + 316 → mJ (sJ S1 (B + 316) k (some a)) x i = mJ S1 x i := fun x i h => by rw [J2, if_neg (by omega)]
        have h3 : mK S3 B = 1 ∧ mJ S3 B 2 = some (B + 2) ∧ mJ S3 B 9 = some (B + 316) ∧ mK S3 (B + 316) = 110 ∧ mN S3 (B + 316) = 10 ∧ I3 B 11 = Int32.ofNat n0 := ⟨(f3.2.1 B (by omega)).1.trans kB, (f3.2.2.1 B 2 (by omega) (by omega)).trans J2', (f3.2.2.1 B 9 (by omega) (by omega)).trans ((j _ _ (by omega)).trans jB9), (f3.2.1 _ (by omega)).1.trans k9, (f3.2.1 _ (by omega)).2.trans n9, (f3.2.2.2.1 B 11 (by omega) (by omega) (fun q => by have q : mK S1 B = 17 := q; omega)).trans e11'⟩
        obtain ⟨y1, y2⟩ := ih (k + 1) (by omega) (wL W (n0 + k) t) (tE X e') S3 I3 (some (zi v0)) R3 h3 F3
        have st3 : ∀ z, zAt E (d + 9) 41 14 [some (zr (some B)), some (zi n), some (zi (Int32.ofNat (k + 1))), some (zi 1), some (zi v0)] [] (zwi S3 I3) z → zAt E (d + 9) 41 14 [some (zr (some B)), some (zi n), some (zi (Int32.ofNat k)), some (zi 1), u4] [] (zwi S I) z := by
          intro z hz
          refine st90b z ?_
          refine ev_ci a3 ?_
          exact ev_bk hz
        have fB := fA.tr (f3.l.wd (show mS S ≤ mS S1 by omega) (Nat.le_refl _) (Nat.le_refl _))
        refine ⟨fun f p h => ?_, fun W' n' h => ?_⟩
        · obtain ⟨S4, I4, k4, v4, u4', a4, t4, f4⟩ := y1 f p h
          exact ⟨S4, I4, k4, v4, u4', fun z hz => st3 z (a4 z hz), t4, (fB.tr (f4.wd (show mS S ≤ mS S3 by omega) (Nat.le_refl _) (Nat.le_refl _))).wd (Nat.le_refl _) (by omega) (by omega)⟩
        · obtain ⟨S4, I4, u4', a4, F4, f4⟩ := y2 W' n' h
          exact ⟨S4, I4, u4', fun z hz => st3 z (a4 z hz), F4, (fB.tr (f4.wd (show mS S ≤ mS S3 by omega) (Nat.le_refl _) (Nat.le_refl _))).wd (Nat.le_refl _) (by omega) (by omega)⟩
      · have a3 := sp_X1_sign_0 (E := E) (d := d + 7) R2 c1
        have st119 : ∀ z, zAt E (d + 9) 41 119 [some (zr (some B)), some (zi n), some (zi (Int32.ofNat (k + 1))), some (zi 0), some (zi v0)] [] (zwi (sJ S1 (B + 316) k (some a)) I1) z → zAt E (d + 9) 41 14 [some (zr (some B)), some (zi n), some (zi (Int32.ofNat k)), some (zi 1), u4] [] (zwi S I) z := by
          intro z hz
          refine st90b z ?_
          refine ev_ci a3 ?_
          refine ev_bk ?_
          refine zat_in zP_X0_laws zk_X0_laws_14 ?_
          simp (disch := omega) only [e14, zif, zdr, zkb, mK_wi, mN_wi, mJ_wi, mI_wi, sI_wi, beq_self_eq_true, Bool.true_or, Bool.or_true, Bool.or_false, Bool.and_self, Bool.and_true, Bool.true_and, ↓reduceIte, ble_up0, i_cl, i_succ, zix_of, zfl_k, zup_k, zup_q]
          exact ev_bk hz
        by_cases c2 : tK X e' = 0
        · have hq : pLs X (c + 1) W (n0 + k) e = Sum.inr (wL W (n0 + k) t, n0 + k + 1) := by
            unfold pLs
            rw [q]
            show (if tK X e' = 59 then _ else if tK X e' = 0 then _ else _) = _
            rw [if_neg c1, if_pos c2]
          rw [hq]
          refine ⟨fun f p h => (by cases h), fun W' n' h => ?_⟩
          obtain ⟨rfl, rfl⟩ := Prod.mk.inj (Sum.inr.inj h)
          have a4 := sp_X1_mustEnd_1 (E := E) (d := d + 8) R2 c2
          have ek : n0 + k + 1 - n0 = k + 1 := by omega
          rw [ek]
          refine ⟨_, _, some (zi v0), fun z hz => st119 z ?_, F2, fA.wd (Nat.le_refl _) (by omega) (by omega)⟩
          refine zat_in zP_X0_laws zk_X0_laws_119 ?_
          simp (disch := omega) only [e119, zif, zdr, zkb, mK_wi, mN_wi, mJ_wi, mI_wi, sI_wi, beq_self_eq_true, Bool.true_or, Bool.or_true, Bool.or_false, Bool.and_self, Bool.and_true, Bool.true_and, ↓reduceIte, ble_up0, i_cl, i_succ, zix_of, zfl_k, zup_k, zup_q, mK_sJ, kB, J2', bk2']
          refine ev_cv a4 ?_
          exact ev_bk hz
        · have hq : pLs X (c + 1) W (n0 + k) e = Sum.inl (1, kA X e') := by
            unfold pLs
            rw [q]
            show (if tK X e' = 59 then _ else if tK X e' = 0 then _ else _) = _
            rw [if_neg c1, if_neg c2]
          rw [hq]
          refine ⟨fun f p h => ?_, fun W' n' h => by cases h⟩
          obtain ⟨rfl, rfl⟩ := Prod.mk.inj (Sum.inl.inj h)
          obtain ⟨I4, a4, t4, f4⟩ := sp_X1_mustEnd_0 (E := E) (d := d + 5) hB R2 c2
          refine ⟨_, I4, Int32.ofNat (k + 1), 0, some (zi v0), fun z hz => st119 z ?_, t4, (fA.tr (f4.l.wd (show mS S ≤ mS S1 by omega) (Nat.le_refl _) (Nat.le_refl _))).wd (Nat.le_refl _) (by omega) (by omega)⟩
          have kq : mK S1 (B + 3) = 3 := R1.1.2.2.1.2
          refine zat_in zP_X0_laws zk_X0_laws_119 ?_
          simp (disch := omega) only [e119, zif, zdr, zkb, mK_wi, mN_wi, mJ_wi, mI_wi, sI_wi, beq_self_eq_true, Bool.true_or, Bool.or_true, Bool.or_false, Bool.and_self, Bool.and_true, Bool.true_and, ↓reduceIte, ble_up0, i_cl, i_succ, zix_of, zfl_k, zup_k, zup_q, mK_sJ, kB, J2', bk2']
          refine ev_cvx a4 ?_
          try simp (disch := omega) only [zif, zdr, zkb, mK_wi, mN_wi, mJ_wi, mI_wi, sI_wi, beq_self_eq_true, Bool.true_or, Bool.or_true, Bool.or_false, Bool.and_self, Bool.and_true, Bool.true_and, ↓reduceIte, ble_up0, i_cl, i_succ, zix_of, zfl_k, zup_k, zup_q, mK_sJ, kq]
          exact ev_bk hz
theorem oLaws_e {f : zFl} (hn : ¬ tin n 0 (gU G 0 0) = 0) (h : pLs (gX G n) (10 - gn G) (gW G) (gn G) 0 = Sum.inl f) : oLaws G n = (-1, sU G (uTk (gU G) 4 (Int32.ofNat f.2) f.1)) := by
  unfold oLaws
  rw [if_neg hn, h]
theorem oLaws_1 {r : zT × Nat} (hn : ¬ tin n 0 (gU G 0 0) = 0) (h : pLs (gX G n) (10 - gn G) (gW G) (gn G) 0 = Sum.inr r) : oLaws G n = (Int32.ofNat r.2, sLw (sU G (uTk (gU G) 0 (-1) 0)) r.1 r.2) := by
  unfold oLaws
  rw [if_neg hn, h]
theorem sp_X0_laws (hB : E.1 ≤ B) (h : XG S I B G) (hi : IG G) (hT : xTX E S I B) (hm : B + 466 ≤ mS S) (hz : ∀ a, mS S ≤ a → mK S a = 0) (hk : ∀ a, B + 318 ≤ a → a < B + 466 → mK S a ≠ 17) : ∃ S' I', zCl E (d + 9) 41 [zr (some B), zi n] (zwi S I) (Sum.inl (some (zi (oLaws G n).1)), zwi S' I') ∧ XG S' I' B (oLaws G n).2 ∧ xFr B 784 3926 S S' I I' := by
  have hcs := h.1
  obtain ⟨b0, ⟨b3, b4, b5⟩, hwn, hwk, hal, ⟨b7, bk7, bn7⟩, ⟨b8, bk8, bn8⟩, ⟨b9, bk9, bn9⟩, ⟨b12, bk12⟩, ⟨ba0, bka0, bna0⟩, b2, bk2, ⟨br0, brk0⟩, br1, br2, brk2, brn2⟩ := id hcs
  have e0 := @b_X0_laws_0
  by_cases hn : tin n 0 (gU G 0 0) = 0
  · have ho : oLaws G n = (-1, gtr G 2 (-1)) := if_pos hn
    rw [ho]
    have ct := sp_X0_takes_0 (E := E) (d := d + 7) hB h hn
    refine ⟨S, zup (zup (zup I B 13 0) B 15 (-1)) B 13 2, ?_, ?_, ⟨Nat.le_refl _, by omega, by omega⟩, fun _ _ => ⟨rfl, rfl⟩, fun a k ha => ⟨rfl, by simp (disch := omega) only [zfl_k, zfl_q, zup_k, zup_q]⟩, hz⟩
    · refine zcl_in' zP_X0_laws ?_; rw [zn_2_5]
      refine zat_in zP_X0_laws zk_X0_laws_0 ?_
      simp (disch := omega) only [e0, zif, zdr, zkb, mK_wi, mN_wi, mJ_wi, mI_wi, sI_wi, beq_self_eq_true, Bool.true_or, Bool.or_true, Bool.or_false, Bool.and_self, Bool.and_true, Bool.true_and, ↓reduceIte, ble_up0, i_cl, i_succ, zix_of, zfl_k, zup_k, zup_q, b0]
      refine ev_ci ct ?_
      refine ev_th _ (fun _ => ?_) (fun h => (h (by first | rfl | trivial)).elim)
      exact ev_r
    · exact h.tr hi (by simp (disch := omega) only [zfl_k, zfl_q, zup_k, zup_q]) (by simp (disch := omega) only [zfl_k, zfl_q, zup_k, zup_q]) (fun a k h1 h2 h3 h4 h5 => by simp (disch := omega) only [zfl_k, zfl_q, zup_k, zup_q])
  · obtain ⟨S1, I1, a1, R1, f1⟩ := sp_X0_takes_1 (d := d + 2) hB h hi hT hm hz hn
    have h0 : ∀ a k, ¬ (a = B ∧ (k = 1 ∨ k = 13 ∨ k = 14 ∨ k = 15)) → ¬ (B + 2 ≤ a ∧ a ≤ B + 4) → (zup (zup (zup (zup (zup (zup I B 13 0) B 15 (-1)) B 1 0) B 14 0) (B + 2) 3 n) (B + 2) 4 0) a k = I a k := fun a k q1 q2 => by simp (disch := omega) only [zfl_k, zfl_q, zup_k, zup_q]
    have hm1 := f1.1.1
    have hn10 := hi.2.2.2.1
    have iB1 : ∀ i, I1 B i = (zup (zup (zup (zup (zup (zup I B 13 0) B 15 (-1)) B 1 0) B 14 0) (B + 2) 3 n) (B + 2) 4 0) B i := fun i => f1.2.2.2.1 B i (by omega) (by omega) (fun q => by rw [b0] at q; omega)
    have h3 : mK S1 B = 1 ∧ mJ S1 B 2 = some (B + 2) ∧ mJ S1 B 9 = some (B + 316) ∧ mK S1 (B + 316) = 110 ∧ mN S1 (B + 316) = 10 ∧ I1 B 11 = Int32.ofNat (gn G) := by
      refine ⟨(f1.2.1 B (by omega)).1.trans b0, (f1.2.2.1 B 2 (by omega) (by omega)).trans b2, (f1.2.2.1 B 9 (by omega) (by omega)).trans b9, (f1.2.1 _ (by omega)).1.trans bk9, (f1.2.1 _ (by omega)).2.trans bn9, ?_⟩
      rw [iB1]
      simp (disch := omega) only [zfl_k, zfl_q, zup_k, zup_q]
      exact h.2.1.2.2.2.1
    obtain ⟨x1, x2⟩ := lp_X0_laws (d := d) (n := n) (n0 := gn G) (X := gX G n) hB (10 - gn G) 0 (by omega) (gW G) 0 S1 I1 none R1 h3 (fun i hi => absurd hi (by omega))
    rw [Nat.add_zero] at x1 x2
    have e10 := @b_X0_laws_10
    have e129 := @b_X0_laws_129
    have st : ∀ z, zAt E (d + 9) 41 14 [some (zr (some B)), some (zi n), some (zi (Int32.ofNat 0)), some (zi 1), none] [] (zwi S1 I1) z → zCl E (d + 9) 41 [zr (some B), zi n] (zwi S I) z := by
      intro z hz
      refine zcl_in' zP_X0_laws ?_; rw [zn_2_5]
      refine zat_in zP_X0_laws zk_X0_laws_0 ?_
      simp (disch := omega) only [e0, zif, zdr, zkb, mK_wi, mN_wi, mJ_wi, mI_wi, sI_wi, beq_self_eq_true, Bool.true_or, Bool.or_true, Bool.or_false, Bool.and_self, Bool.and_true, Bool.true_and, ↓reduceIte, ble_up0, i_cl, i_succ, zix_of, zfl_k, zup_k, zup_q, b0]
      refine ev_ci a1 ?_
      refine ev_th _ (fun h => absurd h (by decide)) (fun _ => ?_)
      refine ev_bk ?_
      refine zat_in zP_X0_laws zk_X0_laws_10 ?_
      simp only [e10]
      exact ev_tl zP_X0_laws zk_X0_laws_14 hz
    cases hp : pLs (gX G n) (10 - gn G) (gW G) (gn G) 0 with
    | inl s =>
      obtain ⟨f, p⟩ := s
      rw [oLaws_e hn hp]
      obtain ⟨S5, I5, k5, v5, u5, a5, ⟨t1, t2, t3⟩, f5⟩ := x1 f p hp
      have fB := (f1.l.tr (f5.wd hm1 (Nat.le_refl _) (Nat.le_refl _))).wd (Nat.le_refl _) (show _ ≤ 784 by omega) (show _ ≤ 3926 by omega)
      have kB := (fB.2.1 B (by omega)).1.trans b0
      have kq := (fB.2.1 (B + 3) (by omega)).1.trans brk0
      have jJ : ∀ a k, ¬ (a = B ∧ (k = 1 ∨ k = 13 ∨ k = 14 ∨ k = 15)) → a ≠ B + 317 → zup (zup (zup I5 B 14 f) B 13 4) B 15 (Int32.ofNat p) a k = I5 a k := fun a k q1 q2 => by simp (disch := omega) only [zfl_k, zfl_q, zup_k, zup_q]
      refine ⟨S5, zup (zup (zup I5 B 14 f) B 13 4) B 15 (Int32.ofNat p), st _ (a5 _ ?_), h.rdl hi hm hz h0 fB jJ ⟨?_, ?_, ?_, ?_⟩ (fun _ _ => uTk_1), xFr.rdl hm hk h0 fB jJ⟩
      · have cr := sp_X0_refuses (E := E) (d := d + 8) (S := S5) (I := zup I5 B 14 f) (a := B + 3) hB kB kq (by omega)
        rw [zup_k (by omega), zup_k (by omega), t1, t3] at cr
        refine zat_in zP_X0_laws zk_X0_laws_129 ?_
        simp (disch := omega) only [e129, zif, zdr, zkb, mK_wi, mN_wi, mJ_wi, mI_wi, sI_wi, beq_self_eq_true, Bool.true_or, Bool.or_true, Bool.or_false, Bool.and_self, Bool.and_true, Bool.true_and, ↓reduceIte, ble_up0, i_cl, i_succ, zix_of, zfl_k, zup_k, zup_q, kq, kB, t2]
        refine ev_ci cr ?_
        exact ev_r
      · rw [uTk_00]
        simp (disch := omega) only [zfl_k, zfl_q, zup_k, zup_q]
        rw [fB.2.2.2.1 B 1 (by omega) (by omega) (fun q => by rw [b0] at q; omega)]
        simp (disch := omega) only [zfl_k, zfl_q, zup_k, zup_q]
      · rw [uTk_01]
        simp (disch := omega) only [zfl_k, zfl_q, zup_k, zup_q]
      · rw [uTk_02]
        simp (disch := omega) only [zfl_k, zfl_q, zup_k, zup_q]
      · rw [uTk_03]
        simp (disch := omega) only [zfl_k, zfl_q, zup_k, zup_q]
    | inr s =>
      obtain ⟨W', n'⟩ := s
      rw [oLaws_1 hn hp]
      obtain ⟨S5, I5, u5, a5, F5, f5⟩ := x2 W' n' hp
      obtain ⟨w1, w2, w3⟩ := pLs_lo (10 - gn G) (gn G) (by omega) _ _ _ _ hp
      have fB := (f1.l.tr (f5.wd hm1 (Nat.le_refl _) (Nat.le_refl _))).wd (Nat.le_refl _) (show _ ≤ 784 by omega) (show _ ≤ 3926 by omega)
      have kB := (fB.2.1 B (by omega)).1.trans b0
      have iB : ∀ i, I5 B i = (zup (zup (zup (zup (zup (zup I B 13 0) B 15 (-1)) B 1 0) B 14 0) (B + 2) 3 n) (B + 2) 4 0) B i := fun i => fB.2.2.2.1 B i (by omega) (by omega) (fun q => by rw [b0] at q; omega)
      have X5 : XG S5 I5 B (sU G (uTk (gU G) 0 (-1) 0)) := by
        refine h.rdl hi hm hz h0 fB (J := I5) (fun _ _ _ _ => rfl) ⟨?_, ?_, ?_, ?_⟩ (fun _ _ => uTk_1)
        · rw [uTk_00, iB]
          simp (disch := omega) only [zfl_k, zfl_q, zup_k, zup_q]
        · rw [uTk_01, iB]
          simp (disch := omega) only [zfl_k, zfl_q, zup_k, zup_q]
        · rw [uTk_02, iB]
          simp (disch := omega) only [zfl_k, zfl_q, zup_k, zup_q]
        · rw [uTk_03, iB]
          simp (disch := omega) only [zfl_k, zfl_q, zup_k, zup_q]
      have hi5 : IG (sU G (uTk (gU G) 0 (-1) 0)) := ⟨hi.1, hi.2.1, hi.2.2.1, hi.2.2.2.1, by
        show sm (uTk (gU G) 0 (-1) 0 0 0) 400
        rw [uTk_00]
        exact sm_of (a := 0) (by omega) (by omega)⟩
      have X6 := X5.lw hi5 F5 w1 (show gn G + (n' - gn G) ≤ 10 by omega)
      have en : gn G + (n' - gn G) = n' := by omega
      have X6 : XG (zcJ S5 (B + 316) (B + 315) 0 (gn G) (n' - gn G)) (zup I5 B 11 (Int32.ofNat n')) B (sLw (sU G (uTk (gU G) 0 (-1) 0)) W' n') := by
        have X6 : XG (zcJ S5 (B + 316) (B + 315) 0 (gn G) (n' - gn G)) (zup I5 B 11 (Int32.ofNat (gn G + (n' - gn G)))) B (sLw (sU G (uTk (gU G) 0 (-1) 0)) W' (gn G + (n' - gn G))) := X6
        rw [en] at X6
        exact X6
      have fX : xFr B 784 3926 S S5 I I5 := xFr.rdl hm hk h0 fB (fun _ _ _ _ => rfl)
      refine ⟨_, _, st _ (a5 _ ?_), X6, ⟨fX.1, fX.2.1, fun a i ha => ⟨(if_neg (by omega)).trans (fX.2.2.1 a i ha).1, (zup_k (by omega)).trans (fX.2.2.1 a i ha).2⟩, fX.2.2.2⟩⟩
      have j9 := (fB.2.2.1 B 9 (by omega) (by omega) (by omega)).trans b9
      have j8 := (fB.2.2.1 B 8 (by omega) (by omega) (by omega)).trans b8
      have k9 := (fB.2.1 (B + 316) (by omega)).1.trans bk9
      have k8 := (fB.2.1 (B + 315) (by omega)).1.trans bk8
      have n9 := (fB.2.1 (B + 316) (by omega)).2.trans bn9
      have n8 := (fB.2.1 (B + 315) (by omega)).2.trans bn8
      have e11 : I5 B 11 = Int32.ofNat (gn G) := by
        rw [iB]
        simp (disch := omega) only [zfl_k, zfl_q, zup_k, zup_q]
        exact h.2.1.2.2.2.1
      have g0 : ((0 : Int32) ≤ 0) = True := eq_true (by decide)
      have k0 : Int32.toNatClampNeg 0 = 0 := by decide
      have p1 : ((0 : Int32) ≤ Int32.ofNat (gn G)) = True := by rw [Int32.le_iff_toInt_le, i_int (by omega)]; exact eq_true (Int.natCast_nonneg _)
      have p2 : ((0 : Int32) ≤ Int32.ofNat (n' - gn G)) = True := by rw [Int32.le_iff_toInt_le, i_int (by omega)]; exact eq_true (Int.natCast_nonneg _)
      have q1 : (0 + (n' - gn G) ≤ 10) = True := eq_true (by omega)
      have q2 : (gn G + (n' - gn G) ≤ 10) = True := eq_true (by omega)
      have ck : zck (zwi S5 I5) (B + 316) 0 (n' - gn G) = true := by
        unfold zck
        rw [List.all_eq_true]
        intro i hi
        have hi := List.mem_range.1 hi
        obtain ⟨a, r1, r2⟩ := F5 i hi
        have r1 : mJ (zwi S5 I5) (B + 316) (0 + i) = some a := by rw [Nat.zero_add]; exact r1
        rw [r1]
        show zkb (mK S5 a) [13, 14, 15, 16] = true
        rcases r2.2.2.2 with z | z | z | z <;> (rw [z.1]; rfl)
      have cj : zcJ (zwi S5 I5) (B + 316) (B + 315) 0 (gn G) (n' - gn G) = zwi (zcJ S5 (B + 316) (B + 315) 0 (gn G) (n' - gn G)) I5 := rfl
      have e144 := @b_X0_laws_144
      have e161 := @b_X0_laws_161
      refine zat_in zP_X0_laws zk_X0_laws_144 ?_
      simp (disch := omega) only [e144, zif, zdr, zkb, mK_wi, mN_wi, mJ_wi, mI_wi, sI_wi, beq_self_eq_true, Bool.true_or, Bool.or_true, Bool.or_false, Bool.and_self, Bool.and_true, Bool.true_and, ↓reduceIte, ble_up0, i_cl, i_succ, zix_of, zfl_k, zup_k, zup_q, kB, j9, j8, k9, k8, n9, n8, e11, g0, k0, p1, p2, q1, q2, Nat.le_refl, decide_true, ck, cj]
      refine ev_tl zP_X0_laws zk_X0_laws_161 ?_
      have kB' : mK (zcJ S5 (B + 316) (B + 315) 0 (gn G) (n' - gn G)) B = 1 := kB
      refine zat_in zP_X0_laws zk_X0_laws_161 ?_
      simp (disch := omega) only [e161, zif, zdr, zkb, mK_wi, mN_wi, mJ_wi, mI_wi, sI_wi, beq_self_eq_true, Bool.true_or, Bool.or_true, Bool.or_false, Bool.and_self, Bool.and_true, Bool.true_and, ↓reduceIte, ble_up0, i_cl, i_succ, zix_of, zfl_k, zup_k, zup_q, kB', e11, i_addN, en]
      exact ev_r
end
