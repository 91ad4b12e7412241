/-! ===== place (class): insertion against counting ===== -/
set_option maxRecDepth 100000
theorem tbf_tr {G : zGl} {a b c : Nat} (h1 : tbf G a b) (h2 : tbf G b c) : tbf G a c := by
  unfold tbf at *
  omega
theorem tbf_as {G : zGl} {a b : Nat} (h1 : tbf G a b) : ¬ tbf G b a := by
  unfold tbf at *
  omega
theorem tbf_tot {G : zGl} {a b : Nat} (h : a ≠ b) : tbf G a b ∨ tbf G b a := by
  unfold tbf
  omega
theorem tbf_ir {G : zGl} {a : Nat} : ¬ tbf G a a := by
  unfold tbf
  omega
theorem tpc_1 {G : zGl} {k c : Nat} (h : tbf G c k) : tpc G k (c + 1) = tpc G k c + 1 := by
  have hk : c ≠ k := fun q => tbf_ir (q ▸ h)
  show tpc G k c + (if c = k then 0 else if mah G c k = 0 then 0 else 1) = _
  rw [if_neg hk, mah_1 h, if_neg (by decide)]
theorem tpc_0 {G : zGl} {k c : Nat} (h : ¬ tbf G c k) : tpc G k (c + 1) = tpc G k c := by
  show tpc G k c + (if c = k then 0 else if mah G c k = 0 then 0 else 1) = _
  by_cases hk : c = k
  · rw [if_pos hk]
    rfl
  · rw [if_neg hk, mah_0 h, if_pos rfl]
    rfl
theorem tpc_mono {G : zGl} {a b : Nat} : ∀ n, (∀ c, c < n → tbf G c a → tbf G c b) → tpc G a n ≤ tpc G b n
  | 0, _ => Nat.le_refl 0
  | n + 1, h => by
    have ih := tpc_mono (G := G) (a := a) (b := b) n (fun c hc => h c (by omega))
    by_cases h1 : tbf G n a
    · rw [tpc_1 h1, tpc_1 (h n (by omega) h1)]
      omega
    · rw [tpc_0 h1]
      by_cases h2 : tbf G n b
      · rw [tpc_1 h2]
        omega
      · rw [tpc_0 h2]
        exact ih
theorem tpc_lt {G : zGl} {a b : Nat} (hab : tbf G a b) : ∀ n, a < n → tpc G a n + 1 ≤ tpc G b n
  | 0, h => absurd h (by omega)
  | n + 1, h => by
    by_cases q : a = n
    · subst q
      have := tpc_mono (G := G) (a := a) (b := b) a (fun c _ hc => tbf_tr hc hab)
      rw [tpc_0 tbf_ir, tpc_1 hab]
      omega
    · have ih := tpc_lt hab n (by omega)
      by_cases h1 : tbf G n a
      · rw [tpc_1 h1, tpc_1 (tbf_tr h1 hab)]
        omega
      · rw [tpc_0 h1]
        by_cases h2 : tbf G n b
        · rw [tpc_1 h2]
          omega
        · rw [tpc_0 h2]
          exact ih
theorem tpc_inj {G : zGl} {a b n : Nat} (ha : a < n) (hb : b < n) (h : tpc G a n = tpc G b n) : a = b := by
  refine Classical.byContradiction (fun q => ?_)
  rcases tbf_tot (G := G) q with h1 | h1
  · have := tpc_lt h1 n ha
    omega
  · have := tpc_lt h1 n hb
    omega
/-- the teams below k in their order lie in the array -/
def ordd (G : zGl) (I : Nat → Nat → Int32) (o k : Nat) : Prop := ∀ p, p < k → ∃ a, a < k ∧ I o p = Int32.ofNat a ∧ tpc G a k = p
theorem tpl_at {G : zGl} {i a : Nat} (ha : a < nn (gV G 0 1)) (h6 : nn (gV G 0 1) ≤ 6) (h : tpc G a (nn (gV G 0 1)) = i) : ∀ c k, k + c = nn (gV G 0 1) → k ≤ a → tpl G (Int32.ofNat i) c k = Int32.ofNat a := by
  have hi := tpc_le (G := G) (k := a) (nn (gV G 0 1))
  intro c
  induction c with
  | zero =>
    intro k hk hka
    omega
  | succ c ih =>
    intro k hk hka
    have hk2 := tpc_le (G := G) (k := k) (nn (gV G 0 1))
    unfold tpl
    by_cases q : tpc G k (nn (gV G 0 1)) = i
    · rw [if_pos (by rw [q])]
      rw [tpc_inj (show k < nn (gV G 0 1) by omega) ha (q.trans h.symm)]
    · rw [if_neg (by rw [i_eq (by omega) (by omega)]; exact q)]
      refine ih (k + 1) (by omega) ?_
      have : k ≠ a := fun z => q (z ▸ h)
      omega
theorem tpl_no {G : zGl} {i : Int32} (h6 : nn (gV G 0 1) ≤ 6) : ∀ c k, k + c = nn (gV G 0 1) → (∀ a, a < nn (gV G 0 1) → Int32.ofNat (tpc G a (nn (gV G 0 1))) ≠ i) → tpl G i c k = -1
  | 0, _, _, _ => rfl
  | c + 1, k, hk, h => by
    unfold tpl
    rw [if_neg (h k (by omega))]
    exact tpl_no h6 c (k + 1) (by omega) h
theorem tpc_lt2 {G : zGl} {a n : Nat} (ha : a < n) : tpc G a n < n := by
  obtain ⟨c, rfl⟩ : ∃ c, n = a + 1 + c := ⟨n - (a + 1), by omega⟩
  clear ha
  induction c with
  | zero =>
    show tpc G a (a + 1) < a + 1
    rw [tpc_0 tbf_ir]
    have := tpc_le (G := G) (k := a) a
    omega
  | succ c ih =>
    show tpc G a (a + 1 + c + 1) < a + 1 + c + 1
    by_cases h : tbf G (a + 1 + c) a
    · rw [tpc_1 h]
      omega
    · rw [tpc_0 h]
      omega
section
variable {E : zE} {d B o k : Nat} {S : zM} {I : Nat → Nat → Int32} {G : zGl} {i : Int32}
/-- where the next team goes -/
theorem lp_X0_place_a {r : Nat} {I0 : Nat → Nat → Int32} (hB : E.1 ≤ B) (hi : IG G) (hL : IL G) (ho : B + 466 ≤ o) (ko : mK S o = 101) (no : mN S o = 6) (hX : ∀ I, (∀ a j, a ≠ o → I a j = I0 a j) → XG S I B G) (hk : k < nn (gV G 0 1)) (h0 : ordd G I0 o k) (hr : r = tpc G k k) : ∀ p, p ≤ k → r ≤ p → ∀ I, (∀ a j, a ≠ o → I a j = I0 a j) → (∀ q, q < p → I o q = I0 o q) → (∀ q, p < q → q ≤ k → I o q = I0 o (q - 1)) → ∃ I', (∀ z, zAt E (d + 5) 59 91 [some (zr (some B)), some (zi i), some (zr (some o)), some (zi (Int32.ofNat k)), some (zi (Int32.ofNat r))] [] (zwi S I') z → zAt E (d + 5) 59 40 [some (zr (some B)), some (zi i), some (zr (some o)), some (zi (Int32.ofNat k)), some (zi (Int32.ofNat p))] [] (zwi S I) z) ∧ (∀ a j, a ≠ o → I' a j = I0 a j) ∧ (∀ q, q < r → I' o q = I0 o q) ∧ ∀ q, r < q → q ≤ k → I' o q = I0 o (q - 1) := by
  have h6 := hi.1.1.2.1.2
  have e40 := @b_X0_place_40
  intro p
  induction p with
  | zero =>
    intro hp hrp I hI h1 h2
    obtain rfl : r = 0 := by omega
    refine ⟨I, fun z hz => ?_, hI, fun q hq => h1 q hq, h2⟩
    have l0 : (Int32.ofNat 0 ≤ 0) = True := eq_true (by decide)
    refine zat_in zP_X0_place zk_X0_place_40 ?_
    simp (disch := omega) only [e40, zif, zdr, zkb, mK_wi, mN_wi, mJ_wi, mI_wi, sI_wi, beq_self_eq_true, Bool.true_or, Bool.or_true, Bool.or_false, Bool.and_self, Bool.and_true, Bool.true_and, ↓reduceIte, ble_up0, i_cl, i_succ, zix_of, zfl_k, zup_k, zup_q, l0]
    exact ev_bk hz
  | succ p ih =>
    intro hp hrp I hI h1 h2
    have hXI := hX I hI
    have hcs := hXI.1
    obtain ⟨b0, ⟨b3, b4, b5⟩, hwn, hwk, hal, ⟨b7, bk7, bn7⟩, ⟨b8, bk8, bn8⟩, ⟨b9, bk9, bn9⟩, ⟨b12, bk12⟩, ⟨ba0, bka0, bna0⟩, b2, bk2, ⟨br0, brk0⟩, br1, br2, brk2, brn2⟩ := id hcs
    obtain ⟨⟨w0, ⟨wa1, wa2, wa3⟩, ⟨wb1, wb2, wb3⟩, ⟨wc1, wc2, wc3⟩⟩, ⟨w1, w2, w3⟩, w4⟩ := id hwn
    obtain ⟨g1, g2⟩ := w4 k (by omega)
    -- the team in front
    obtain ⟨a, a1, a2, a3⟩ := h0 p (by omega)
    obtain ⟨g3, g4⟩ := w4 a (by omega)
    have e1 : I o p = Int32.ofNat a := (h1 p (by omega)).trans a2
    have ca := sp_X0_isAhead (E := E) (d := d) hXI hi hL (show a < nn (gV G 0 1) by omega) hk
    rw [xah_mah hi a1 hk] at ca
    have l0 : (Int32.ofNat (p + 1) ≤ 0) = False := by
      rw [show (0 : Int32) = Int32.ofNat 0 from rfl, i_le (by omega) (by omega)]
      exact eq_false (by omega)
    have es : Int32.ofNat (p + 1) - 1 = Int32.ofNat p := i_subL (b := 1) (by omega) (by omega)
    have em : Int32.ofNat (p + 1) + (-1) = Int32.ofNat p := by
      rw [← es, Int32.sub_eq_add_neg]
    by_cases hb : tbf G a k
    · -- it stays in front
      rw [mah_1 hb] at ca
      have hlt : tpc G a k < tpc G k k := by
        have := tpc_lt hb k a1
        omega
      obtain rfl : r = p + 1 := by omega
      refine ⟨I, fun z hz => ?_, hI, fun q hq => h1 q hq, h2⟩
      refine zat_in zP_X0_place zk_X0_place_40 ?_
      simp (disch := omega) only [e40, zif, zdr, zkb, mK_wi, mN_wi, mJ_wi, mI_wi, sI_wi, beq_self_eq_true, Bool.true_or, Bool.or_true, Bool.or_false, Bool.and_self, Bool.and_true, Bool.true_and, ↓reduceIte, ble_up0, i_cl, i_succ, zix_of, zfl_k, zup_k, zup_q, l0, b0, b3, w0, wa1, wa2, wa3, wb1, wb2, wb3, wc1, wc2, wc3, w1, w2, w3, ko, no, es, e1, g2, g4]
      refine ev_ci ca ?_
      refine ev_th _ (fun h => absurd h (by decide)) (fun _ => ?_)
      exact ev_bk hz
    · -- it goes one place back
      rw [mah_0 hb] at ca
      have hka : tbf G k a := by
        rcases tbf_tot (G := G) (show a ≠ k by omega) with q | q
        · exact absurd q hb
        · exact q
      have hle : tpc G k k ≤ tpc G a k := tpc_mono k (fun c _ hc => tbf_tr hc hka)
      obtain ⟨I', x1, x2, x3, x4⟩ := ih (by omega) (by omega) (zup I o (p + 1) (I o p)) (fun a j h => (zup_k (by omega)).trans (hI a j h)) (fun q hq => (zup_k (by omega)).trans (h1 q (by omega))) (fun q h3 h4 => by
        by_cases z : q = p + 1
        · subst z
          rw [zup_q, show p + 1 - 1 = p by omega]
          exact h1 p (by omega)
        · rw [zup_k (by omega)]
          exact h2 q (by omega) h4)
      refine ⟨I', fun z hz => ?_, x2, x3, x4⟩
      refine zat_in zP_X0_place zk_X0_place_40 ?_
      simp (disch := omega) only [e40, zif, zdr, zkb, mK_wi, mN_wi, mJ_wi, mI_wi, sI_wi, beq_self_eq_true, Bool.true_or, Bool.or_true, Bool.or_false, Bool.and_self, Bool.and_true, Bool.true_and, ↓reduceIte, ble_up0, i_cl, i_succ, zix_of, zfl_k, zup_k, zup_q, l0, b0, b3, w0, wa1, wa2, wa3, wb1, wb2, wb3, wc1, wc2, wc3, w1, w2, w3, ko, no, es, e1, g2, g4]
      refine ev_ci ca ?_
      refine ev_th _ (fun _ => ?_) (fun h => (h (by first | rfl | trivial)).elim)
      simp (disch := omega) only [zif, zdr, zkb, mK_wi, mN_wi, mJ_wi, mI_wi, sI_wi, beq_self_eq_true, Bool.true_or, Bool.or_true, Bool.or_false, Bool.and_self, Bool.and_true, Bool.true_and, ble_up0, i_cl, i_succ, zix_of, zfl_k, zup_k, zup_q, ko, no, es, em]
      try rw [em]
      exact ev_bk (x1 z hz)
theorem lp_X0_place {I0 : Nat → Nat → Int32} (hB : E.1 ≤ B) (hi : IG G) (hL : IL G) (ho : B + 466 ≤ o) (ko : mK S o = 101) (no : mN S o = 6) (hX : ∀ I, (∀ a j, a ≠ o → I a j = I0 a j) → XG S I B G) : ∀ c k, k + c = nn (gV G 0 1) → ∀ I (u4 : Option zV), (∀ a j, a ≠ o → I a j = I0 a j) → ordd G I o k → ∃ I' u', (∀ z, zAt E (d + 5) 59 102 [some (zr (some B)), some (zi i), some (zr (some o)), some (zi (Int32.ofNat (nn (gV G 0 1)))), u'] [] (zwi S I') z → zAt E (d + 5) 59 26 [some (zr (some B)), some (zi i), some (zr (some o)), some (zi (Int32.ofNat k)), u4] [] (zwi S I) z) ∧ (∀ a j, a ≠ o → I' a j = I0 a j) ∧ ordd G I' o (nn (gV G 0 1)) := by
  have h6 := hi.1.1.2.1.2
  have e26 := @b_X0_place_26
  have e91 := @b_X0_place_91
  intro c
  induction c with
  | zero =>
    intro k hk I u4 hI hO
    obtain rfl : k = nn (gV G 0 1) := hk
    have hXI := hX I hI
    have hcs := hXI.1
    obtain ⟨b0, ⟨b3, b4, b5⟩, hwn, hwk, hal, ⟨b7, bk7, bn7⟩, ⟨b8, bk8, bn8⟩, ⟨b9, bk9, bn9⟩, ⟨b12, bk12⟩, ⟨ba0, bka0, bna0⟩, b2, bk2, ⟨br0, brk0⟩, br1, br2, brk2, brn2⟩ := id hcs
    obtain ⟨⟨w0, ⟨wa1, wa2, wa3⟩, ⟨wb1, wb2, wb3⟩, ⟨wc1, wc2, wc3⟩⟩, ⟨w1, w2, w3⟩, w4⟩ := id hwn
    have e5 := hXI.2.2.1.1.un.1.2.1.trans hi.1.1.2.1.1
    refine ⟨I, u4, fun z hz => ?_, hI, hO⟩
    refine zat_in zP_X0_place zk_X0_place_26 ?_
    simp (disch := omega) only [e26, zif, zdr, zkb, mK_wi, mN_wi, mJ_wi, mI_wi, sI_wi, beq_self_eq_true, Bool.true_or, Bool.or_true, Bool.or_false, Bool.and_self, Bool.and_true, Bool.true_and, ↓reduceIte, ble_up0, i_cl, i_succ, zix_of, zfl_k, zup_k, zup_q, b0, b3, w0, wa1, wa2, wa3, wb1, wb2, wb3, wc1, wc2, wc3, w1, w2, w3, e5, i_le, Nat.le_refl]
    exact ev_bk hz
  | succ c ih =>
    intro k hk I u4 hI hO
    have hXI := hX I hI
    have hcs := hXI.1
    obtain ⟨b0, ⟨b3, b4, b5⟩, hwn, hwk, hal, ⟨b7, bk7, bn7⟩, ⟨b8, bk8, bn8⟩, ⟨b9, bk9, bn9⟩, ⟨b12, bk12⟩, ⟨ba0, bka0, bna0⟩, b2, bk2, ⟨br0, brk0⟩, br1, br2, brk2, brn2⟩ := id hcs
    obtain ⟨⟨w0, ⟨wa1, wa2, wa3⟩, ⟨wb1, wb2, wb3⟩, ⟨wc1, wc2, wc3⟩⟩, ⟨w1, w2, w3⟩, w4⟩ := id hwn
    have e5 := hXI.2.2.1.1.un.1.2.1.trans hi.1.1.2.1.1
    have l : (nn (gV G 0 1) ≤ k) = False := eq_false (by omega)
    have hr := tpc_le (G := G) (k := k) k
    obtain ⟨I1, x1, x2, x3, x4⟩ := lp_X0_place_a (d := d) (i := i) (r := tpc G k k) (I0 := I) hB hi hL ho ko no (fun J hJ => hX J (fun a j h => (hJ a j h).trans (hI a j h))) (show k < nn (gV G 0 1) by omega) hO rfl k (Nat.le_refl _) hr I (fun _ _ _ => rfl) (fun _ _ => rfl) (fun q h1 h2 => by omega)
    have hO2 : ordd G (zup I1 o (tpc G k k) (Int32.ofNat k)) o (k + 1) := by
      intro p hp
      by_cases q : p = tpc G k k
      · refine ⟨k, by omega, ?_, ?_⟩
        · rw [q, zup_q]
        · rw [tpc_0 tbf_ir, q]
      · by_cases q2 : p < tpc G k k
        · obtain ⟨a, a1, a2, a3⟩ := hO p (by omega)
          refine ⟨a, by omega, ?_, ?_⟩
          · rw [zup_k (by omega), x3 p q2]
            exact a2
          · have hb : tbf G a k := by
              rcases tbf_tot (G := G) (show a ≠ k by omega) with z | z
              · exact z
              · have : tpc G k k ≤ tpc G a k := tpc_mono k (fun c _ hc => tbf_tr hc z)
                omega
            rw [tpc_0 (tbf_as hb)]
            exact a3
        · obtain ⟨a, a1, a2, a3⟩ := hO (p - 1) (by omega)
          refine ⟨a, by omega, ?_, ?_⟩
          · rw [zup_k (by omega), x4 p (by omega) (by omega)]
            exact a2
          · have hb : tbf G k a := by
              rcases tbf_tot (G := G) (show a ≠ k by omega) with z | z
              · have := tpc_lt z k a1
                omega
              · exact z
            rw [tpc_1 hb, a3]
            omega
    obtain ⟨I2, u2, y1, y2, y3⟩ := ih (k + 1) (by omega) (zup I1 o (tpc G k k) (Int32.ofNat k)) (some (zi (Int32.ofNat (tpc G k k)))) (fun a j h => (zup_k (by omega)).trans ((x2 a j h).trans (hI a j h))) hO2
    refine ⟨I2, u2, fun z hz => ?_, y2, y3⟩
    refine zat_in zP_X0_place zk_X0_place_26 ?_
    simp (disch := omega) only [e26, zif, zdr, zkb, mK_wi, mN_wi, mJ_wi, mI_wi, sI_wi, beq_self_eq_true, Bool.true_or, Bool.or_true, Bool.or_false, Bool.and_self, Bool.and_true, Bool.true_and, ↓reduceIte, ble_up0, i_cl, i_succ, zix_of, zfl_k, zup_k, zup_q, b0, b3, w0, wa1, wa2, wa3, wb1, wb2, wb3, wc1, wc2, wc3, w1, w2, w3, e5, i_le, l]
    refine ev_tl zP_X0_place zk_X0_place_40 ?_
    refine x1 z ?_
    refine zat_in zP_X0_place zk_X0_place_91 ?_
    simp (disch := omega) only [e91, zif, zdr, zkb, mK_wi, mN_wi, mJ_wi, mI_wi, sI_wi, beq_self_eq_true, Bool.true_or, Bool.or_true, Bool.or_false, Bool.and_self, Bool.and_true, Bool.true_and, ↓reduceIte, ble_up0, i_cl, i_succ, zix_of, zfl_k, zup_k, zup_q, ko, no]
    exact ev_bk (y1 z hz)
theorem sp_X0_place (hB : E.1 ≤ B) (h : XG S I B G) (hi : IG G) (hL : IL G) (hm : B + 466 ≤ mS S) (hz : ∀ a, mS S ≤ a → mK S a = 0) : ∃ S' I', zCl E (d + 5) 59 [zr (some B), zi i] (zwi S I) (Sum.inl (some (zi (tpl G i (nn (gV G 0 1)) 0))), zwi S' I') ∧ XG S' I' B G ∧ xFr B 784 3926 S S' I I' := by
  have h6 := hi.1.1.2.1.2
  have hcs := h.1
  obtain ⟨b0, ⟨b3, b4, b5⟩, hwn, hwk, hal, ⟨b7, bk7, bn7⟩, ⟨b8, bk8, bn8⟩, ⟨b9, bk9, bn9⟩, ⟨b12, bk12⟩, ⟨ba0, bka0, bna0⟩, b2, bk2, ⟨br0, brk0⟩, br1, br2, brk2, brn2⟩ := id hcs
  have hwn' := hwn
  obtain ⟨⟨w0, ⟨wa1, wa2, wa3⟩, ⟨wb1, wb2, wb3⟩, ⟨wc1, wc2, wc3⟩⟩, ⟨w1, w2, w3⟩, w4⟩ := id hwn
  have e5 := h.2.2.1.1.un.1.2.1.trans hi.1.1.2.1.1
  have e0 := @b_X0_place_0
  have e19 := @b_X0_place_19
  have e102 := @b_X0_place_102
  have ci := sp_X0_in (E := E) (d := d + 4) (S := S) (I := I) i 0 (Int32.ofNat (nn (gV G 0 1)) - 1)
  have hz1 : ∀ a, mS S + 1 ≤ a → mK (zal S 101 6 6) a = 0 := fun a ha => by
    rw [mK_al_k (by omega)]
    exact hz a (by omega)
  by_cases c1 : tin i 0 (Int32.ofNat (nn (gV G 0 1)) - 1) = 0
  · -- no such place
    have hno : tpl G i (nn (gV G 0 1)) 0 = -1 := by
      refine tpl_no h6 _ _ (Nat.zero_add _) (fun a ha q => ?_)
      have h1 := tpc_lt2 (G := G) ha
      have := tin_0 (a := i) (lo := 0) (hi := Int32.ofNat (nn (gV G 0 1)) - 1) (by rw [← q, Int32.le_iff_toInt_le, i_int (by omega)]; exact Int.natCast_nonneg _) (by
        have h2 : ¬ (Int32.ofNat (nn (gV G 0 1)) - 1 < i) := by
          rw [i_prd (by omega), ← q, i_le (by omega) (by omega)]
          omega
        rw [i_nle, Decidable.not_not] at h2
        exact h2)
      rw [c1] at this
      exact absurd this (by decide)
    rw [hno]
    rw [c1] at ci
    refine ⟨S, I, ?_, h, ⟨Nat.le_refl _, by omega, by omega⟩, fun _ _ => ⟨rfl, rfl⟩, fun _ _ _ => ⟨rfl, rfl⟩, hz⟩
    refine zcl_in' zP_X0_place ?_; rw [zn_2_5]
    refine zat_in zP_X0_place zk_X0_place_0 ?_
    simp (disch := omega) only [e0, zif, zdr, zkb, mK_wi, mN_wi, mJ_wi, mI_wi, sI_wi, beq_self_eq_true, Bool.true_or, Bool.or_true, Bool.or_false, Bool.and_self, Bool.and_true, Bool.true_and, ↓reduceIte, ble_up0, i_cl, i_succ, zix_of, zfl_k, zup_k, zup_q, b0, b3, w0, wa1, wa2, wa3, wb1, wb2, wb3, wc1, wc2, wc3, w1, w2, w3, e5]
    refine ev_ci ci ?_
    refine ev_th _ (fun _ => ev_r) (fun h => (h (by first | rfl | trivial)).elim)
  · obtain ⟨t1, t2⟩ := tin_t (by omega) c1
    have hX : ∀ J, (∀ a j, a ≠ mS S → J a j = zwn I (mS S) a j) → XG (zal S 101 6 6) J B G := fun J hJ =>
      h.mv hi hm (fun a l1 l2 => ⟨mK_al_k (by omega), mN_al_k (by omega)⟩) (fun a k l1 l2 => mJ_al_k (by omega)) (fun a k l1 l2 => (hJ a k (by omega)).trans (zwn_k (by omega))) hz
    obtain ⟨I2, u2, x1, x2, x3⟩ := lp_X0_place (E := E) (d := d) (o := mS S) (i := i) hB hi hL hm (mK_al_q rfl) (mN_al_q rfl) hX (nn (gV G 0 1)) 0 (Nat.zero_add _) (zwn I (mS S)) none (fun _ _ _ => rfl) (fun p hp => absurd hp (by omega))
    obtain ⟨a, a1, a2, a3⟩ := x3 (nn i) t2
    have hres : tpl G i (nn (gV G 0 1)) 0 = Int32.ofNat a := by
      rw [t1]
      exact tpl_at a1 h6 a3 _ _ (Nat.zero_add _) (Nat.zero_le _)
    rw [hres]
    refine ⟨zal S 101 6 6, I2, ?_, hX I2 x2, ⟨Nat.le_succ _, show mS S + 1 ≤ mS S + 784 by omega, show mU S + 6 ≤ mU S + 3926 by omega⟩, fun a ha => ⟨mK_al_k (by omega), mN_al_k (by omega)⟩, fun a k ha => ⟨mJ_al_k (by omega), (x2 a k (by omega)).trans (zwn_k (by omega))⟩, hz1⟩
    have z6 : zsz 6 = true := by decide
    have k6 : Int32.toNatClampNeg 6 = 6 := by decide
    have z0 : (0 : Int32) = Int32.ofNat 0 := rfl
    refine zcl_in' zP_X0_place ?_; rw [zn_2_5]
    refine zat_in zP_X0_place zk_X0_place_0 ?_
    simp (disch := omega) only [e0, zif, zdr, zkb, mK_wi, mN_wi, mJ_wi, mI_wi, sI_wi, beq_self_eq_true, Bool.true_or, Bool.or_true, Bool.or_false, Bool.and_self, Bool.and_true, Bool.true_and, ↓reduceIte, ble_up0, i_cl, i_succ, zix_of, zfl_k, zup_k, zup_q, b0, b3, w0, wa1, wa2, wa3, wb1, wb2, wb3, wc1, wc2, wc3, w1, w2, w3, e5]
    refine ev_ci ci ?_
    refine ev_th _ (fun h => absurd h c1) (fun _ => ?_)
    refine ev_bk ?_
    refine zat_in zP_X0_place zk_X0_place_19 ?_
    simp (disch := omega) only [e19, zif, zdr, zkb, mK_wi, mN_wi, mJ_wi, mI_wi, sI_wi, beq_self_eq_true, Bool.true_or, Bool.or_true, Bool.or_false, Bool.and_self, Bool.and_true, Bool.true_and, ↓reduceIte, ble_up0, i_cl, i_succ, zix_of, zfl_k, zup_k, zup_q, z6, k6, al_wi, mS_wi]
    refine ev_tl zP_X0_place zk_X0_place_26 ?_
    refine x1 _ ?_
    have ko : mK (zal S 101 6 6) (mS S) = 101 := mK_al_q rfl
    have no : mN (zal S 101 6 6) (mS S) = 6 := mN_al_q rfl
    have hzi : zix i 6 = true := by
      rw [t1]
      exact zix_of (by omega) (by omega)
    have hcl : Int32.toNatClampNeg i = nn i := rfl
    refine zat_in zP_X0_place zk_X0_place_102 ?_
    simp (disch := omega) only [e102, zif, zdr, zkb, mK_wi, mN_wi, mJ_wi, mI_wi, sI_wi, beq_self_eq_true, Bool.true_or, Bool.or_true, Bool.or_false, Bool.and_self, Bool.and_true, Bool.true_and, ↓reduceIte, ble_up0, i_cl, i_succ, zix_of, zfl_k, zup_k, zup_q, ko, no, hzi, hcl, a2]
    exact ev_r
end
