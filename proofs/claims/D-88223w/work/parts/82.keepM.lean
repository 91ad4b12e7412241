/-! ===== keep and back (model) ===== -/
set_option maxRecDepth 100000
section
variable {E : zE} {d w nt t u : Nat} {S : zM} {I J : Nat → Nat → Int32} {V : zT} {TT : Nat → zT} {T : zT}
theorem sp_team_become (hB : E.1 ≤ t) (hBu : E.1 ≤ u) (hS : mTS S t) (hU : mTS S u) (hd : t + 10 ≤ u ∨ u + 10 ≤ t) (ok : tOK T) (hP : mTP I u T) : ∃ I', zCl E (d + 1) 180 [zr (some t), zr (some u)] (zwi S I) (Sum.inl none, zwi S I') ∧ mTP I' t T ∧ zfI t (t + 10) I I' := by
  obtain ⟨p1, p2, p3⟩ := hP
  obtain ⟨o1, o2, o3⟩ := ok
  obtain ⟨I1, a1, b1, l1, s1, c1⟩ := sp_X7_become (E := E) (d := d) hB hBu hS hU o1.2 o2.2 (cS_le 2000) hd p1 o1.1 o3 o2.1
  refine ⟨I1, a1, ⟨b1, l1.trans p2, fun s h1 h2 => ?_⟩, c1⟩
  obtain ⟨e1, e2⟩ := s1 (cS T s) (cS_lt h1 h2)
  rw [e1, e2]
  exact p3 s h1 h2
theorem lp_X6_keep_a (hB : E.1 ≤ w) (hS : mWT S w) (hK : mKT S w) : ∀ c k : Nat, k + c = 12 → ∀ I : Nat → Nat → Int32, (∀ j, j < 12 → I (w + 1) j = J (w + 1) j ∧ I (w + 2) j = J (w + 2) j) → ∀ r, zAt E d 115 75 [some (zr (some w)), some (zi 12)] [] (zwi S (zfl I (w + 5) (w + 5 + 2) k 12 (zfc J (w + 1) (w + 5)))) r → zAt E d 115 39 [some (zr (some w)), some (zi (Int32.ofNat k))] [] (zwi S I) r := by
  obtain ⟨⟨w0, ⟨wa1, wa2, wa3⟩, ⟨wb1, wb2, wb3⟩, ⟨wc1, wc2, wc3⟩⟩, ⟨w1, w2, w3⟩, w4⟩ := hS
  obtain ⟨⟨ka1, ka2, ka3⟩, ⟨kb1, kb2, kb3⟩, ⟨kc1, kc2, kc3⟩, ⟨k1, k2, k3⟩, k4⟩ := hK
  intro c
  induction c with
  | zero =>
    intro k hk I hJ r hr
    obtain rfl : k = 12 := hk
    rw [zfl_0 (by omega)] at hr
    have hl : ((12 : Int32) ≤ Int32.ofNat 12) = True := eq_true (by decide)
    refine zat_in zP_X6_keep zk_X6_keep_39 ?_
    simp (disch := omega) only [b_X6_keep_39, zif, zdr, zkb, mK_wi, mN_wi, mJ_wi, mI_wi, sI_wi, beq_self_eq_true, Bool.true_or, Bool.or_true, Bool.or_false, Bool.and_self, Bool.and_true, Bool.true_and, ↓reduceIte, hl]
    exact ev_bk hr
  | succ c ih =>
    intro k hk I hJ r hr
    have hl : ((12 : Int32) ≤ Int32.ofNat k) = False := by
      rw [show (12 : Int32) = Int32.ofNat 12 from rfl, i_le (by omega) (by omega)]
      exact eq_false (by omega)
    have := ih (k + 1) (by omega) (zup (zup I (w + 5) k (I (w + 1) k)) (w + 5 + 1) k (I (w + 2) k)) (fun j hj => by
      rw [zup_k (by omega), zup_k (by omega), zup_k (by omega), zup_k (by omega)]; exact hJ j hj) r (by
      rw [zfl_s2 (f := zfc J (w + 1) (w + 5)) (by omega) (by rw [zfc_x 0 (by omega)]; exact (hJ k (by omega)).1.symm) (by rw [zfc_x 1 (by omega)]; exact (hJ k (by omega)).2.symm)]; exact hr)
    refine zat_in zP_X6_keep zk_X6_keep_39 ?_; simp (disch := omega) only [b_X6_keep_39, zc_X6_keep_69, b_X6_keep_69, zif, zdr, zkb, mK_wi, mN_wi, mJ_wi, mI_wi, sI_wi, beq_self_eq_true, Bool.true_or, Bool.or_true, Bool.or_false, Bool.and_self, Bool.and_true, Bool.true_and, ↓reduceIte, ble_up0, i_cl, i_succ, zix_of, zfl_k, zup_k, zup_q, w0, wa1, wa2, wa3, wb1, wb2, wb3, wc1, wc2, wc3, ka1, ka2, ka3, kb1, kb2, kb3, kc1, kc2, kc3, hl]
    exact ev_bk this
theorem lp_X6_keep_b (hB : E.1 ≤ w) (hS : mWT S w) (hK : mKT S w) : ∀ c k : Nat, k + c = 334 → ∀ I : Nat → Nat → Int32, (∀ j, j < 334 → I (w + 3) j = J (w + 3) j) → ∀ r, zAt E d 115 102 [some (zr (some w)), some (zi 334)] [] (zwi S (zfl I (w + 7) (w + 7 + 1) k 334 (zfc J (w + 3) (w + 7)))) r → zAt E d 115 77 [some (zr (some w)), some (zi (Int32.ofNat k))] [] (zwi S I) r := by
  obtain ⟨⟨w0, ⟨wa1, wa2, wa3⟩, ⟨wb1, wb2, wb3⟩, ⟨wc1, wc2, wc3⟩⟩, ⟨w1, w2, w3⟩, w4⟩ := hS
  obtain ⟨⟨ka1, ka2, ka3⟩, ⟨kb1, kb2, kb3⟩, ⟨kc1, kc2, kc3⟩, ⟨k1, k2, k3⟩, k4⟩ := hK
  intro c
  induction c with
  | zero =>
    intro k hk I hJ r hr
    obtain rfl : k = 334 := hk
    rw [zfl_0 (by omega)] at hr
    have hl : ((334 : Int32) ≤ Int32.ofNat 334) = True := eq_true (by decide)
    refine zat_in zP_X6_keep zk_X6_keep_77 ?_
    simp (disch := omega) only [b_X6_keep_77, zif, zdr, zkb, mK_wi, mN_wi, mJ_wi, mI_wi, sI_wi, beq_self_eq_true, Bool.true_or, Bool.or_true, Bool.or_false, Bool.and_self, Bool.and_true, Bool.true_and, ↓reduceIte, hl]
    exact ev_bk hr
  | succ c ih =>
    intro k hk I hJ r hr
    have hl : ((334 : Int32) ≤ Int32.ofNat k) = False := by
      rw [show (334 : Int32) = Int32.ofNat 334 from rfl, i_le (by omega) (by omega)]
      exact eq_false (by omega)
    have := ih (k + 1) (by omega) (zup I (w + 7) k (I (w + 3) k)) (fun j hj => by
      rw [zup_k (by omega)]; exact hJ j hj) r (by
      rw [zfl_s (f := zfc J (w + 3) (w + 7)) (by omega) (by rw [zfc_x 0 (by omega)]; exact (hJ k (by omega)).symm)]; exact hr)
    refine zat_in zP_X6_keep zk_X6_keep_77 ?_; simp (disch := omega) only [b_X6_keep_77, zif, zdr, zkb, mK_wi, mN_wi, mJ_wi, mI_wi, sI_wi, beq_self_eq_true, Bool.true_or, Bool.or_true, Bool.or_false, Bool.and_self, Bool.and_true, Bool.true_and, ↓reduceIte, ble_up0, i_cl, i_succ, zix_of, zfl_k, zup_k, zup_q, w0, wa1, wa2, wa3, wb1, wb2, wb3, wc1, wc2, wc3, ka1, ka2, ka3, kb1, kb2, kb3, kc1, kc2, kc3, hl]
    exact ev_bk this
theorem lp_X6_keep_c (hB : E.1 ≤ w) (hS : mWT S w) (hK : mKT S w) (hnt : nt ≤ 6) (hT : ∀ k, k < nt → tOK (TT k)) : ∀ c k : Nat, k + c = nt → ∀ I : Nat → Nat → Int32, I w 5 = Int32.ofNat nt → (∀ j, j < nt → mTP I (w + 28 + 20 * j) (TT j)) → ∃ I', (∀ r, zAt E (d + 2) 115 133 [some (zr (some w)), some (zi (Int32.ofNat nt))] [] (zwi S I') r → zAt E (d + 2) 115 104 [some (zr (some w)), some (zi (Int32.ofNat k))] [] (zwi S I) r) ∧ (∀ j, k ≤ j → j < nt → mTP I' (w + 38 + 20 * j) (TT j)) ∧ (∀ a i, (∀ j, k ≤ j → j < nt → a < w + 38 + 20 * j ∨ w + 38 + 20 * j + 10 ≤ a) → I' a i = I a i) := by
  obtain ⟨⟨w0, ⟨wa1, wa2, wa3⟩, ⟨wb1, wb2, wb3⟩, ⟨wc1, wc2, wc3⟩⟩, ⟨w1, w2, w3⟩, w4⟩ := hS
  obtain ⟨⟨ka1, ka2, ka3⟩, ⟨kb1, kb2, kb3⟩, ⟨kc1, kc2, kc3⟩, ⟨k1, k2, k3⟩, k4⟩ := hK
  intro c
  induction c with
  | zero =>
    intro k hk I e0 hJ
    obtain rfl : k = nt := hk
    refine ⟨I, fun r hr => ?_, fun j h1 h2 => by omega, fun _ _ _ => rfl⟩
    refine zat_in zP_X6_keep zk_X6_keep_104 ?_
    simp (disch := omega) only [b_X6_keep_104, zif, zdr, zkb, mK_wi, mN_wi, mJ_wi, mI_wi, sI_wi, beq_self_eq_true, Bool.true_or, Bool.or_true, Bool.or_false, Bool.and_self, Bool.and_true, Bool.true_and, ↓reduceIte, w0, e0, i_le, Nat.le_refl]
    exact ev_bk hr
  | succ c ih =>
    intro k hk I e0 hJ
    have hl : (nt ≤ k) = False := eq_false (by omega)
    obtain ⟨g1, g2⟩ := w4 k (by omega)
    obtain ⟨g3, g4⟩ := k4 k (by omega)
    obtain ⟨I1, a1, b1, c1⟩ := sp_team_become (E := E) (d := d) (t := w + 38 + 20 * k) (u := w + 28 + 20 * k) (by omega) (by omega) g3 g1 (by omega) (hT k (by omega)) (hJ k (by omega))
    obtain ⟨I2, a2, b2, c2⟩ := ih (k + 1) (by omega) I1 (by rw [c1 _ _ (by omega)]; exact e0) (fun j hj => (hJ j hj).fr (fun a i h1 h2 => c1 a i (by omega)))
    refine ⟨I2, fun r hr => ?_, fun j h1 h2 => ?_, fun a i h => ?_⟩
    · refine zat_in zP_X6_keep zk_X6_keep_104 ?_; simp (disch := omega) only [b_X6_keep_104, zif, zdr, zkb, mK_wi, mN_wi, mJ_wi, mI_wi, sI_wi, beq_self_eq_true, Bool.true_or, Bool.or_true, Bool.or_false, Bool.and_self, Bool.and_true, Bool.true_and, ↓reduceIte, ble_up0, i_cl, i_succ, zix_of, zfl_k, zup_k, zup_q, w0, w1, w2, w3, k1, k2, k3, e0, i_le, hl, g2, g4, g1.1, g3.1]
      exact ev_cv a1 (ev_bk (a2 r hr))
    · by_cases e : j = k
      · subst e
        exact b1.fr (fun a i h3 h4 => c2 a i (fun j' h5 h6 => by omega))
      · exact b2 j (by omega) h2
    · rw [c2 a i (fun j' h5 h6 => h j' (by omega) h6), c1 a i (by have := h k (by omega) (by omega); omega)]
theorem lp_X6_back_a (hB : E.1 ≤ w) (hS : mWT S w) (hK : mKT S w) : ∀ c k : Nat, k + c = 12 → ∀ I : Nat → Nat → Int32, (∀ j, j < 12 → I (w + 5) j = J (w + 5) j ∧ I (w + 6) j = J (w + 6) j) → ∀ r, zAt E d 116 89 [some (zr (some w)), some (zi 12)] [] (zwi S (zfl I (w + 1) (w + 1 + 2) k 12 (zfc J (w + 5) (w + 1)))) r → zAt E d 116 53 [some (zr (some w)), some (zi (Int32.ofNat k))] [] (zwi S I) r := by
  obtain ⟨⟨w0, ⟨wa1, wa2, wa3⟩, ⟨wb1, wb2, wb3⟩, ⟨wc1, wc2, wc3⟩⟩, ⟨w1, w2, w3⟩, w4⟩ := hS
  obtain ⟨⟨ka1, ka2, ka3⟩, ⟨kb1, kb2, kb3⟩, ⟨kc1, kc2, kc3⟩, ⟨k1, k2, k3⟩, k4⟩ := hK
  intro c
  induction c with
  | zero =>
    intro k hk I hJ r hr
    obtain rfl : k = 12 := hk
    rw [zfl_0 (by omega)] at hr
    have hl : ((12 : Int32) ≤ Int32.ofNat 12) = True := eq_true (by decide)
    refine zat_in zP_X6_back zk_X6_back_53 ?_
    simp (disch := omega) only [b_X6_back_53, zif, zdr, zkb, mK_wi, mN_wi, mJ_wi, mI_wi, sI_wi, beq_self_eq_true, Bool.true_or, Bool.or_true, Bool.or_false, Bool.and_self, Bool.and_true, Bool.true_and, ↓reduceIte, hl]
    exact ev_bk hr
  | succ c ih =>
    intro k hk I hJ r hr
    have hl : ((12 : Int32) ≤ Int32.ofNat k) = False := by
      rw [show (12 : Int32) = Int32.ofNat 12 from rfl, i_le (by omega) (by omega)]
      exact eq_false (by omega)
    have := ih (k + 1) (by omega) (zup (zup I (w + 1) k (I (w + 5) k)) (w + 1 + 1) k (I (w + 6) k)) (fun j hj => by
      rw [zup_k (by omega), zup_k (by omega), zup_k (by omega), zup_k (by omega)]; exact hJ j hj) r (by
      rw [zfl_s2 (f := zfc J (w + 5) (w + 1)) (by omega) (by rw [zfc_x 0 (by omega)]; exact (hJ k (by omega)).1.symm) (by rw [zfc_x 1 (by omega)]; exact (hJ k (by omega)).2.symm)]; exact hr)
    refine zat_in zP_X6_back zk_X6_back_53 ?_; simp (disch := omega) only [b_X6_back_53, zc_X6_back_83, b_X6_back_83, zif, zdr, zkb, mK_wi, mN_wi, mJ_wi, mI_wi, sI_wi, beq_self_eq_true, Bool.true_or, Bool.or_true, Bool.or_false, Bool.and_self, Bool.and_true, Bool.true_and, ↓reduceIte, ble_up0, i_cl, i_succ, zix_of, zfl_k, zup_k, zup_q, w0, wa1, wa2, wa3, wb1, wb2, wb3, wc1, wc2, wc3, ka1, ka2, ka3, kb1, kb2, kb3, kc1, kc2, kc3, hl]
    exact ev_bk this
theorem lp_X6_back_b (hB : E.1 ≤ w) (hS : mWT S w) (hK : mKT S w) : ∀ c k : Nat, k + c = 334 → ∀ I : Nat → Nat → Int32, (∀ j, j < 334 → I (w + 7) j = J (w + 7) j) → ∀ r, zAt E d 116 116 [some (zr (some w)), some (zi 334)] [] (zwi S (zfl I (w + 3) (w + 3 + 1) k 334 (zfc J (w + 7) (w + 3)))) r → zAt E d 116 91 [some (zr (some w)), some (zi (Int32.ofNat k))] [] (zwi S I) r := by
  obtain ⟨⟨w0, ⟨wa1, wa2, wa3⟩, ⟨wb1, wb2, wb3⟩, ⟨wc1, wc2, wc3⟩⟩, ⟨w1, w2, w3⟩, w4⟩ := hS
  obtain ⟨⟨ka1, ka2, ka3⟩, ⟨kb1, kb2, kb3⟩, ⟨kc1, kc2, kc3⟩, ⟨k1, k2, k3⟩, k4⟩ := hK
  intro c
  induction c with
  | zero =>
    intro k hk I hJ r hr
    obtain rfl : k = 334 := hk
    rw [zfl_0 (by omega)] at hr
    have hl : ((334 : Int32) ≤ Int32.ofNat 334) = True := eq_true (by decide)
    refine zat_in zP_X6_back zk_X6_back_91 ?_
    simp (disch := omega) only [b_X6_back_91, zif, zdr, zkb, mK_wi, mN_wi, mJ_wi, mI_wi, sI_wi, beq_self_eq_true, Bool.true_or, Bool.or_true, Bool.or_false, Bool.and_self, Bool.and_true, Bool.true_and, ↓reduceIte, hl]
    exact ev_bk hr
  | succ c ih =>
    intro k hk I hJ r hr
    have hl : ((334 : Int32) ≤ Int32.ofNat k) = False := by
      rw [show (334 : Int32) = Int32.ofNat 334 from rfl, i_le (by omega) (by omega)]
      exact eq_false (by omega)
    have := ih (k + 1) (by omega) (zup I (w + 3) k (I (w + 7) k)) (fun j hj => by
      rw [zup_k (by omega)]; exact hJ j hj) r (by
      rw [zfl_s (f := zfc J (w + 7) (w + 3)) (by omega) (by rw [zfc_x 0 (by omega)]; exact (hJ k (by omega)).symm)]; exact hr)
    refine zat_in zP_X6_back zk_X6_back_91 ?_; simp (disch := omega) only [b_X6_back_91, zif, zdr, zkb, mK_wi, mN_wi, mJ_wi, mI_wi, sI_wi, beq_self_eq_true, Bool.true_or, Bool.or_true, Bool.or_false, Bool.and_self, Bool.and_true, Bool.true_and, ↓reduceIte, ble_up0, i_cl, i_succ, zix_of, zfl_k, zup_k, zup_q, w0, wa1, wa2, wa3, wb1, wb2, wb3, wc1, wc2, wc3, ka1, ka2, ka3, kb1, kb2, kb3, kc1, kc2, kc3, hl]
    exact ev_bk this
theorem lp_X6_back_c (hB : E.1 ≤ w) (hS : mWT S w) (hK : mKT S w) (hnt : nt ≤ 6) (hT : ∀ k, k < nt → tOK (TT k)) : ∀ c k : Nat, k + c = nt → ∀ I : Nat → Nat → Int32, I w 5 = Int32.ofNat nt → (∀ j, j < nt → mTP I (w + 38 + 20 * j) (TT j)) → ∃ I', (∀ r, zAt E (d + 2) 116 147 [some (zr (some w)), some (zi (Int32.ofNat nt))] [] (zwi S I') r → zAt E (d + 2) 116 118 [some (zr (some w)), some (zi (Int32.ofNat k))] [] (zwi S I) r) ∧ (∀ j, k ≤ j → j < nt → mTP I' (w + 28 + 20 * j) (TT j)) ∧ (∀ a i, (∀ j, k ≤ j → j < nt → a < w + 28 + 20 * j ∨ w + 28 + 20 * j + 10 ≤ a) → I' a i = I a i) := by
  obtain ⟨⟨w0, ⟨wa1, wa2, wa3⟩, ⟨wb1, wb2, wb3⟩, ⟨wc1, wc2, wc3⟩⟩, ⟨w1, w2, w3⟩, w4⟩ := hS
  obtain ⟨⟨ka1, ka2, ka3⟩, ⟨kb1, kb2, kb3⟩, ⟨kc1, kc2, kc3⟩, ⟨k1, k2, k3⟩, k4⟩ := hK
  intro c
  induction c with
  | zero =>
    intro k hk I e0 hJ
    obtain rfl : k = nt := hk
    refine ⟨I, fun r hr => ?_, fun j h1 h2 => by omega, fun _ _ _ => rfl⟩
    refine zat_in zP_X6_back zk_X6_back_118 ?_
    simp (disch := omega) only [b_X6_back_118, zif, zdr, zkb, mK_wi, mN_wi, mJ_wi, mI_wi, sI_wi, beq_self_eq_true, Bool.true_or, Bool.or_true, Bool.or_false, Bool.and_self, Bool.and_true, Bool.true_and, ↓reduceIte, w0, e0, i_le, Nat.le_refl]
    exact ev_bk hr
  | succ c ih =>
    intro k hk I e0 hJ
    have hl : (nt ≤ k) = False := eq_false (by omega)
    obtain ⟨g1, g2⟩ := w4 k (by omega)
    obtain ⟨g3, g4⟩ := k4 k (by omega)
    obtain ⟨I1, a1, b1, c1⟩ := sp_team_become (E := E) (d := d) (t := w + 28 + 20 * k) (u := w + 38 + 20 * k) (by omega) (by omega) g1 g3 (by omega) (hT k (by omega)) (hJ k (by omega))
    obtain ⟨I2, a2, b2, c2⟩ := ih (k + 1) (by omega) I1 (by rw [c1 _ _ (by omega)]; exact e0) (fun j hj => (hJ j hj).fr (fun a i h1 h2 => c1 a i (by omega)))
    refine ⟨I2, fun r hr => ?_, fun j h1 h2 => ?_, fun a i h => ?_⟩
    · refine zat_in zP_X6_back zk_X6_back_118 ?_; simp (disch := omega) only [b_X6_back_118, zif, zdr, zkb, mK_wi, mN_wi, mJ_wi, mI_wi, sI_wi, beq_self_eq_true, Bool.true_or, Bool.or_true, Bool.or_false, Bool.and_self, Bool.and_true, Bool.true_and, ↓reduceIte, ble_up0, i_cl, i_succ, zix_of, zfl_k, zup_k, zup_q, w0, w1, w2, w3, k1, k2, k3, e0, i_le, hl, g2, g4, g1.1, g3.1]
      exact ev_cv a1 (ev_bk (a2 r hr))
    · by_cases e : j = k
      · subst e
        exact b1.fr (fun a i h3 h4 => c2 a i (fun j' h5 h6 => by omega))
      · exact b2 j (by omega) h2
    · rw [c2 a i (fun j' h5 h6 => h j' (by omega) h6), c1 a i (by have := h k (by omega) (by omega); omega)]

theorem mW.fr' {w : Nat} {I J : Nat → Nat → Int32} {V : zT} {TT : Nat → zT} (h : mW I w V TT) (h1 : sm (V 0 1) 6) (hf : ∀ a j, (a = w → 4 ≤ j ∧ j < 8) → w ≤ a → (a ≤ w + 3 ∨ w + 28 ≤ a ∧ a < w + 148 ∧ (a - (w + 28)) % 20 < 10) → J a j = I a j) : mW J w V TT := by
  obtain ⟨⟨v0, r1, r2, r3⟩, ht⟩ := h
  refine ⟨⟨fun j hj => (hf _ _ (by omega) (by omega) (by omega)).trans (v0 j hj), fun j hj => (hf _ _ (by omega) (by omega) (by omega)).trans (r1 j hj), fun j hj => (hf _ _ (by omega) (by omega) (by omega)).trans (r2 j hj), fun j hj => (hf _ _ (by omega) (by omega) (by omega)).trans (r3 j hj)⟩, fun k hk => (ht k hk).fr (fun a j h3 h4 => ?_)⟩
  have := h1.2
  exact hf _ _ (by omega) (by omega) (by omega)
theorem mKW.fr' {w : Nat} {I J : Nat → Nat → Int32} {V : zT} {TT : Nat → zT} (h : mKW I w V TT) (h1 : sm (V 0 1) 6) (hf : ∀ a j, (a = w → 12 ≤ j ∧ j < 16) → w ≤ a → (a = w ∨ w + 5 ≤ a ∧ a ≤ w + 7 ∨ w + 38 ≤ a ∧ a < w + 148 ∧ (a - (w + 38)) % 20 < 10) → J a j = I a j) : mKW J w V TT := by
  obtain ⟨⟨v0, r1, r2, r3⟩, ht⟩ := h
  refine ⟨⟨fun j hj => (hf _ _ (by omega) (by omega) (by omega)).trans (v0 j hj), fun j hj => (hf _ _ (by omega) (by omega) (by omega)).trans (r1 j hj), fun j hj => (hf _ _ (by omega) (by omega) (by omega)).trans (r2 j hj), fun j hj => (hf _ _ (by omega) (by omega) (by omega)).trans (r3 j hj)⟩, fun k hk => (ht k hk).fr (fun a j h3 h4 => ?_)⟩
  have := h1.2
  exact hf _ _ (by omega) (by omega) (by omega)
theorem sp_X6_keep (hB : E.1 ≤ w) (hS : mWT S w) (hK : mKT S w) (hnt : sm (V 0 1) 6) (hT : ∀ k, k < nn (V 0 1) → tOK (TT k)) (hP : mW I w V TT) : ∃ I', zCl E (d + 2) 115 [zr (some w)] (zwi S I) (Sum.inl (some (zi 1)), zwi S I') ∧ mKW I' w V TT ∧ I' w 0 = 0 ∧ ∀ a i, ¬ (a = w ∧ (i = 0 ∨ 12 ≤ i ∧ i < 16)) → ¬ (w + 5 ≤ a ∧ a ≤ w + 7) → ¬ (w + 38 ≤ a ∧ a < w + 148 ∧ (a - (w + 38)) % 20 < 10) → I' a i = I a i := by
  have w0 := hS.1.1
  have hP' := hP
  obtain ⟨hV, hTT⟩ := hP
  obtain ⟨⟨v0, v1, v2, v3⟩, r1, r2, r3⟩ := hV.un
  have key : ∃ I1, (∀ r, zAt E (d + 2) 115 104 [some (zr (some w)), some (zi (Int32.ofNat 0))] [] (zwi S I1) r → zCl E (d + 2) 115 [zr (some w)] (zwi S I) r) ∧ kP I1 w V ∧ I1 w 0 = 0 ∧ ∀ a i, ¬ (a = w ∧ (i = 0 ∨ 12 ≤ i ∧ i < 16)) → ¬ (w + 5 ≤ a ∧ a ≤ w + 7) → I1 a i = I a i := by
    refine ⟨?w, ?a, ?b, ?e, ?c⟩
    case a =>
      intro r hr
      refine zcl_in' zP_X6_keep ?_; rw [zn_1_2]
      refine zat_in zP_X6_keep zk_X6_keep_0 ?_
      simp (disch := omega) only [b_X6_keep_0, zc_X6_keep_21, b_X6_keep_21, zif, zdr, zkb, mK_wi, mN_wi, mJ_wi, mI_wi, sI_wi, beq_self_eq_true, Bool.true_or, Bool.or_true, Bool.or_false, Bool.and_self, Bool.and_true, Bool.true_and, ↓reduceIte, ble_up0, i_cl, i_succ, zix_of, zfl_k, zup_k, zup_q, w0, v0, v1, v2, v3]
      refine ev_tl zP_X6_keep zk_X6_keep_39 (lp_X6_keep_a (J := I) hB hS hK 12 0 (by omega) _ (fun j hj => by constructor <;> simp (disch := omega) only [zfl_k, zfl_q, zup_k, zup_q]) _ ?_)
      refine zat_in zP_X6_keep zk_X6_keep_75 ?_
      simp only [b_X6_keep_75]
      refine ev_tl zP_X6_keep zk_X6_keep_77 (lp_X6_keep_b (J := I) hB hS hK 334 0 (by omega) _ (fun j hj => by simp (disch := omega) only [zfl_k, zfl_q, zup_k, zup_q]) _ ?_)
      refine zat_in zP_X6_keep zk_X6_keep_102 ?_
      simp only [b_X6_keep_102]
      refine ev_tl zP_X6_keep zk_X6_keep_104 ?_
      exact hr
    case b =>
      refine kP.mk ?_ ?_ ?_ ?_ (fun j hj => ?_) (fun j hj => ?_) (fun j hj => ?_)
      · simp (disch := omega) only [zfl_k, zfl_q, zup_k, zup_q]
      · simp (disch := omega) only [zfl_k, zfl_q, zup_k, zup_q]
      · simp (disch := omega) only [zfl_k, zfl_q, zup_k, zup_q]
      · simp (disch := omega) only [zfl_k, zfl_q, zup_k, zup_q]
      · simp (disch := omega) only [zfl_k, zfl_q, zup_k, zup_q]
        rw [zfc_x 0 (by omega)]
        exact r1 j hj
      · simp (disch := omega) only [zfl_k, zfl_q, zup_k, zup_q]
        rw [zfc_x 1 (by omega)]
        exact r2 j hj
      · simp (disch := omega) only [zfl_k, zfl_q, zup_k, zup_q]
        rw [zfc_x 0 (by omega)]
        exact r3 j hj
    case e => simp (disch := omega) only [zfl_k, zfl_q, zup_k, zup_q]
    case c =>
      intro a i h1 h2
      simp (disch := omega) only [zfl_k, zfl_q, zup_k, zup_q]
  obtain ⟨I1, a1, b1, e1, c1⟩ := key
  have := hnt.2
  have hP1 := hP'.fr' (J := I1) hnt (fun a j h1 h2 h3 => c1 a j (by omega) (by omega))
  obtain ⟨I2, a2, b2, c2⟩ := lp_X6_keep_c (E := E) (d := d) hB hS hK hnt.2 hT (nn (V 0 1)) 0 (by omega) I1 (hP1.1.un.1.2.1.trans hnt.1) (fun j hj => hP1.2 j hj)
  refine ⟨I2, a1 _ (a2 _ ?_), ⟨⟨fun j hj => (c2 _ _ (by omega)).trans (b1.1 j hj), fun j hj => (c2 _ _ (by omega)).trans (b1.2.1 j hj), fun j hj => (c2 _ _ (by omega)).trans (b1.2.2.1 j hj), fun j hj => (c2 _ _ (by omega)).trans (b1.2.2.2 j hj)⟩, fun k hk => b2 k (by omega) hk⟩, (c2 _ _ (by omega)).trans e1, fun a i h1 h2 h3 => (c2 a i (by omega)).trans (c1 a i h1 h2)⟩
  refine zat_in zP_X6_keep zk_X6_keep_133 ?_; simp (disch := omega) only [b_X6_keep_133, zif, zdr, zkb, mK_wi, mN_wi, mJ_wi, mI_wi, sI_wi, beq_self_eq_true, Bool.true_or, Bool.or_true, Bool.or_false, Bool.and_self, Bool.and_true, Bool.true_and, ↓reduceIte]
  exact ev_r
end
