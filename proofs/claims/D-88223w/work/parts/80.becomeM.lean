/-! ===== a team becomes another one (model) ===== -/
set_option maxRecDepth 100000
theorem zfc_x {J : Nat → Nat → Int32} {t1 t0 x j : Nat} (c : Nat) (h : x = t0 + c) : zfc J t1 t0 x j = J (t1 + c) j := by
  subst h
  exact zfc_e
section
variable {E : zE} {d t u nd ng ns : Nat} {S : zM} {I J : Nat → Nat → Int32} {T : zT}
theorem lp_X7_become_a (hB : E.1 ≤ t) (hBu : E.1 ≤ u) (hS : mTS S t) (hU : mTS S u) (hd : t + 10 ≤ u ∨ u + 10 ≤ t) : ∀ c k : Nat, k + c = 16 → ∀ I : Nat → Nat → Int32, (∀ a k, u ≤ a → a < u + 10 → I a k = J a k) → ∀ r, zAt E d 180 154 [some (zr (some t)), some (zr (some u)), some (zi 16)] [] (zwi S (zfl I (t + 1) (t + 1 + 3) k 16 (zfc J u t))) r → zAt E d 180 106 [some (zr (some t)), some (zr (some u)), some (zi (Int32.ofNat k))] [] (zwi S I) r := by
  obtain ⟨p0, ⟨ps1, ps2, ps3⟩, ⟨pt1, pt2, pt3⟩, ⟨pl1, pl2, pl3⟩, ⟨pc1, pc2, pc3⟩, ⟨pw1, pw2, pw3⟩, ⟨pn1, pn2, pn3⟩, ⟨py1, py2, py3⟩, ⟨pf1, pf2, pf3⟩, ⟨pg1, pg2, pg3⟩⟩ := hS
  obtain ⟨vp0, ⟨vps1, vps2, vps3⟩, ⟨vpt1, vpt2, vpt3⟩, ⟨vpl1, vpl2, vpl3⟩, ⟨vpc1, vpc2, vpc3⟩, ⟨vpw1, vpw2, vpw3⟩, ⟨vpn1, vpn2, vpn3⟩, ⟨vpy1, vpy2, vpy3⟩, ⟨vpf1, vpf2, vpf3⟩, ⟨vpg1, vpg2, vpg3⟩⟩ := hU
  intro c
  induction c with
  | zero =>
    intro k hk I hJ r hr
    obtain rfl : k = 16 := hk
    rw [zfl_0 (by omega)] at hr
    have hl : ((16 : Int32) ≤ Int32.ofNat 16) = True := eq_true (by decide)
    refine zat_in zP_X7_become zk_X7_become_106 ?_
    simp (disch := omega) only [b_X7_become_106, zif, zdr, zkb, mK_wi, mN_wi, mJ_wi, mI_wi, sI_wi, beq_self_eq_true, Bool.true_or, Bool.or_true, Bool.or_false, Bool.and_self, Bool.and_true, Bool.true_and, ↓reduceIte, hl]
    exact ev_bk hr
  | succ c ih =>
    intro k hk I hJ r hr
    have hl : ((16 : Int32) ≤ Int32.ofNat k) = False := by
      rw [show (16 : Int32) = Int32.ofNat 16 from rfl, i_le (by omega) (by omega)]
      exact eq_false (by omega)
    have := ih (k + 1) (by omega) (zup (zup (zup I (t + 1) k (I (u + 1) k)) (t + 1 + 1) k (I (u + 2) k)) (t + 1 + 2) k (I (u + 3) k)) (fun a j h1 h2 => by
      rw [zup_k (by omega), zup_k (by omega), zup_k (by omega)]; exact hJ a j h1 h2) r (by
      rw [zfl_s3 (f := zfc J u t) (by omega) (by rw [zfc_x 1 (by omega), hJ _ _ (by omega) (by omega)]) (by rw [zfc_x 2 (by omega), hJ _ _ (by omega) (by omega)]) (by rw [zfc_x 3 (by omega), hJ _ _ (by omega) (by omega)])]; exact hr)
    refine zat_in zP_X7_become zk_X7_become_106 ?_; simp (disch := omega) only [b_X7_become_106, zc_X7_become_136, b_X7_become_136, zif, zdr, zkb, mK_wi, mN_wi, mJ_wi, mI_wi, sI_wi, beq_self_eq_true, Bool.true_or, Bool.or_true, Bool.or_false, Bool.and_self, Bool.and_true, Bool.true_and, ↓reduceIte, ble_up0, i_cl, i_succ, zix_of, zfl_k, zup_k, zup_q, p0, ps1, ps2, ps3, pt1, pt2, pt3, pl1, pl2, pl3, pc1, pc2, pc3, pw1, pw2, pw3, pn1, pn2, pn3, py1, py2, py3, pf1, pf2, pf3, pg1, pg2, pg3, vp0, vps1, vps2, vps3, vpt1, vpt2, vpt3, vpl1, vpl2, vpl3, vpc1, vpc2, vpc3, vpw1, vpw2, vpw3, vpn1, vpn2, vpn3, vpy1, vpy2, vpy3, vpf1, vpf2, vpf3, vpg1, vpg2, vpg3, hl]
    exact ev_bk this
theorem lp_X7_become_b (hB : E.1 ≤ t) (hBu : E.1 ≤ u) (hS : mTS S t) (hU : mTS S u) (hd : t + 10 ≤ u ∨ u + 10 ≤ t) : ∀ c k : Nat, k + c = 13 → ∀ I : Nat → Nat → Int32, (∀ a k, u ≤ a → a < u + 10 → I a k = J a k) → ∀ r, zAt E d 180 192 [some (zr (some t)), some (zr (some u)), some (zi 13)] [] (zwi S (zfl I (t + 4) (t + 4 + 2) k 13 (zfc J u t))) r → zAt E d 180 156 [some (zr (some t)), some (zr (some u)), some (zi (Int32.ofNat k))] [] (zwi S I) r := by
  obtain ⟨p0, ⟨ps1, ps2, ps3⟩, ⟨pt1, pt2, pt3⟩, ⟨pl1, pl2, pl3⟩, ⟨pc1, pc2, pc3⟩, ⟨pw1, pw2, pw3⟩, ⟨pn1, pn2, pn3⟩, ⟨py1, py2, py3⟩, ⟨pf1, pf2, pf3⟩, ⟨pg1, pg2, pg3⟩⟩ := hS
  obtain ⟨vp0, ⟨vps1, vps2, vps3⟩, ⟨vpt1, vpt2, vpt3⟩, ⟨vpl1, vpl2, vpl3⟩, ⟨vpc1, vpc2, vpc3⟩, ⟨vpw1, vpw2, vpw3⟩, ⟨vpn1, vpn2, vpn3⟩, ⟨vpy1, vpy2, vpy3⟩, ⟨vpf1, vpf2, vpf3⟩, ⟨vpg1, vpg2, vpg3⟩⟩ := hU
  intro c
  induction c with
  | zero =>
    intro k hk I hJ r hr
    obtain rfl : k = 13 := hk
    rw [zfl_0 (by omega)] at hr
    have hl : ((12 : Int32) < Int32.ofNat 13) = True := eq_true (by decide)
    refine zat_in zP_X7_become zk_X7_become_156 ?_
    simp (disch := omega) only [b_X7_become_156, zif, zdr, zkb, mK_wi, mN_wi, mJ_wi, mI_wi, sI_wi, beq_self_eq_true, Bool.true_or, Bool.or_true, Bool.or_false, Bool.and_self, Bool.and_true, Bool.true_and, ↓reduceIte, hl]
    exact ev_bk hr
  | succ c ih =>
    intro k hk I hJ r hr
    have hl : ((12 : Int32) < Int32.ofNat k) = False := by
      rw [show (12 : Int32) = Int32.ofNat 12 from rfl, i_lt (by omega) (by omega)]
      exact eq_false (by omega)
    have := ih (k + 1) (by omega) (zup (zup I (t + 4) k (I (u + 4) k)) (t + 4 + 1) k (I (u + 5) k)) (fun a j h1 h2 => by
      rw [zup_k (by omega), zup_k (by omega)]; exact hJ a j h1 h2) r (by
      rw [zfl_s2 (f := zfc J u t) (by omega) (by rw [zfc_x 4 (by omega), hJ _ _ (by omega) (by omega)]) (by rw [zfc_x 5 (by omega), hJ _ _ (by omega) (by omega)])]; exact hr)
    refine zat_in zP_X7_become zk_X7_become_156 ?_; simp (disch := omega) only [b_X7_become_156, zc_X7_become_186, b_X7_become_186, zif, zdr, zkb, mK_wi, mN_wi, mJ_wi, mI_wi, sI_wi, beq_self_eq_true, Bool.true_or, Bool.or_true, Bool.or_false, Bool.and_self, Bool.and_true, Bool.true_and, ↓reduceIte, ble_up0, i_cl, i_succ, zix_of, zfl_k, zup_k, zup_q, p0, ps1, ps2, ps3, pt1, pt2, pt3, pl1, pl2, pl3, pc1, pc2, pc3, pw1, pw2, pw3, pn1, pn2, pn3, py1, py2, py3, pf1, pf2, pf3, pg1, pg2, pg3, vp0, vps1, vps2, vps3, vpt1, vpt2, vpt3, vpl1, vpl2, vpl3, vpc1, vpc2, vpc3, vpw1, vpw2, vpw3, vpn1, vpn2, vpn3, vpy1, vpy2, vpy3, vpf1, vpf2, vpf3, vpg1, vpg2, vpg3, hl]
    exact ev_bk this
theorem lp_X7_become_c (hB : E.1 ≤ t) (hBu : E.1 ≤ u) (hS : mTS S t) (hU : mTS S u) (hd : t + 10 ≤ u ∨ u + 10 ≤ t) (hn : ns ≤ 2000) : ∀ c k : Nat, k + c = ns → ∀ I : Nat → Nat → Int32, I t 11 = Int32.ofNat ns → (∀ a k, u ≤ a → a < u + 10 → I a k = J a k) → ∀ r, zAt E d 180 232 [some (zr (some t)), some (zr (some u)), some (zi (Int32.ofNat ns))] [] (zwi S (zfl I (t + 6) (t + 6 + 2) k ns (zfc J u t))) r → zAt E d 180 194 [some (zr (some t)), some (zr (some u)), some (zi (Int32.ofNat k))] [] (zwi S I) r := by
  obtain ⟨p0, ⟨ps1, ps2, ps3⟩, ⟨pt1, pt2, pt3⟩, ⟨pl1, pl2, pl3⟩, ⟨pc1, pc2, pc3⟩, ⟨pw1, pw2, pw3⟩, ⟨pn1, pn2, pn3⟩, ⟨py1, py2, py3⟩, ⟨pf1, pf2, pf3⟩, ⟨pg1, pg2, pg3⟩⟩ := hS
  obtain ⟨vp0, ⟨vps1, vps2, vps3⟩, ⟨vpt1, vpt2, vpt3⟩, ⟨vpl1, vpl2, vpl3⟩, ⟨vpc1, vpc2, vpc3⟩, ⟨vpw1, vpw2, vpw3⟩, ⟨vpn1, vpn2, vpn3⟩, ⟨vpy1, vpy2, vpy3⟩, ⟨vpf1, vpf2, vpf3⟩, ⟨vpg1, vpg2, vpg3⟩⟩ := hU
  intro c
  induction c with
  | zero =>
    intro k hk I e0 hJ r hr
    obtain rfl : k = ns := hk
    rw [zfl_0 (by omega)] at hr
    refine zat_in zP_X7_become zk_X7_become_194 ?_
    simp (disch := omega) only [b_X7_become_194, zif, zdr, zkb, mK_wi, mN_wi, mJ_wi, mI_wi, sI_wi, beq_self_eq_true, Bool.true_or, Bool.or_true, Bool.or_false, Bool.and_self, Bool.and_true, Bool.true_and, ↓reduceIte, p0, ps1, ps2, ps3, pt1, pt2, pt3, pl1, pl2, pl3, pc1, pc2, pc3, pw1, pw2, pw3, pn1, pn2, pn3, py1, py2, py3, pf1, pf2, pf3, pg1, pg2, pg3, e0, i_le, Nat.le_refl]
    exact ev_bk hr
  | succ c ih =>
    intro k hk I e0 hJ r hr
    have hl : (ns ≤ k) = False := eq_false (by omega)
    have := ih (k + 1) (by omega) (zup (zup I (t + 6) k (I (u + 6) k)) (t + 6 + 1) k (I (u + 7) k)) (by rw [zup_k (by omega), zup_k (by omega)]; exact e0) (fun a j h1 h2 => by
      rw [zup_k (by omega), zup_k (by omega)]; exact hJ a j h1 h2) r (by
      rw [zfl_s2 (f := zfc J u t) (by omega) (by rw [zfc_x 6 (by omega), hJ _ _ (by omega) (by omega)]) (by rw [zfc_x 7 (by omega), hJ _ _ (by omega) (by omega)])]; exact hr)
    refine zat_in zP_X7_become zk_X7_become_194 ?_; simp (disch := omega) only [b_X7_become_194, zc_X7_become_226, b_X7_become_226, zif, zdr, zkb, mK_wi, mN_wi, mJ_wi, mI_wi, sI_wi, beq_self_eq_true, Bool.true_or, Bool.or_true, Bool.or_false, Bool.and_self, Bool.and_true, Bool.true_and, ↓reduceIte, ble_up0, i_cl, i_succ, zix_of, zfl_k, zup_k, zup_q, p0, ps1, ps2, ps3, pt1, pt2, pt3, pl1, pl2, pl3, pc1, pc2, pc3, pw1, pw2, pw3, pn1, pn2, pn3, py1, py2, py3, pf1, pf2, pf3, pg1, pg2, pg3, vp0, vps1, vps2, vps3, vpt1, vpt2, vpt3, vpl1, vpl2, vpl3, vpc1, vpc2, vpc3, vpw1, vpw2, vpw3, vpn1, vpn2, vpn3, vpy1, vpy2, vpy3, vpf1, vpf2, vpf3, vpg1, vpg2, vpg3, e0, i_le, hl]
    exact ev_bk this
theorem lp_X7_become_d (hB : E.1 ≤ t) (hBu : E.1 ≤ u) (hS : mTS S t) (hU : mTS S u) (hd : t + 10 ≤ u ∨ u + 10 ≤ t) (hn : ng ≤ 4) : ∀ c k : Nat, k + c = ng → ∀ I : Nat → Nat → Int32, I t 12 = Int32.ofNat ng → (∀ a k, u ≤ a → a < u + 10 → I a k = J a k) → zAt E d 180 234 [some (zr (some t)), some (zr (some u)), some (zi (Int32.ofNat k))] [] (zwi S I) (Sum.inl none, zwi S (zfl I (t + 8) (t + 8 + 2) k ng (zfc J u t))) := by
  obtain ⟨p0, ⟨ps1, ps2, ps3⟩, ⟨pt1, pt2, pt3⟩, ⟨pl1, pl2, pl3⟩, ⟨pc1, pc2, pc3⟩, ⟨pw1, pw2, pw3⟩, ⟨pn1, pn2, pn3⟩, ⟨py1, py2, py3⟩, ⟨pf1, pf2, pf3⟩, ⟨pg1, pg2, pg3⟩⟩ := hS
  obtain ⟨vp0, ⟨vps1, vps2, vps3⟩, ⟨vpt1, vpt2, vpt3⟩, ⟨vpl1, vpl2, vpl3⟩, ⟨vpc1, vpc2, vpc3⟩, ⟨vpw1, vpw2, vpw3⟩, ⟨vpn1, vpn2, vpn3⟩, ⟨vpy1, vpy2, vpy3⟩, ⟨vpf1, vpf2, vpf3⟩, ⟨vpg1, vpg2, vpg3⟩⟩ := hU
  intro c
  induction c with
  | zero =>
    intro k hk I e0 hJ
    obtain rfl : k = ng := hk
    rw [zfl_0 (by omega)]
    refine zat_in zP_X7_become zk_X7_become_234 ?_
    simp (disch := omega) only [b_X7_become_234, zif, zdr, zkb, mK_wi, mN_wi, mJ_wi, mI_wi, sI_wi, beq_self_eq_true, Bool.true_or, Bool.or_true, Bool.or_false, Bool.and_self, Bool.and_true, Bool.true_and, ↓reduceIte, p0, ps1, ps2, ps3, pt1, pt2, pt3, pl1, pl2, pl3, pc1, pc2, pc3, pw1, pw2, pw3, pn1, pn2, pn3, py1, py2, py3, pf1, pf2, pf3, pg1, pg2, pg3, e0, i_le, Nat.le_refl]
    refine ev_bk ?_
    refine zat_in zP_X7_become zk_X7_become_272 ?_; simp (disch := omega) only [b_X7_become_272, zif, zdr, zkb, mK_wi, mN_wi, mJ_wi, mI_wi, sI_wi, beq_self_eq_true, Bool.true_or, Bool.or_true, Bool.or_false, Bool.and_self, Bool.and_true, Bool.true_and, ↓reduceIte]
    exact ev_r
  | succ c ih =>
    intro k hk I e0 hJ
    have hl : (ng ≤ k) = False := eq_false (by omega)
    have := ih (k + 1) (by omega) (zup (zup I (t + 8) k (I (u + 8) k)) (t + 8 + 1) k (I (u + 9) k)) (by rw [zup_k (by omega), zup_k (by omega)]; exact e0) (fun a j h1 h2 => by
      rw [zup_k (by omega), zup_k (by omega)]; exact hJ a j h1 h2)
    rw [zfl_s2 (f := zfc J u t) (by omega) (by rw [zfc_x 8 (by omega), hJ _ _ (by omega) (by omega)]) (by rw [zfc_x 9 (by omega), hJ _ _ (by omega) (by omega)])] at this
    refine zat_in zP_X7_become zk_X7_become_234 ?_; simp (disch := omega) only [b_X7_become_234, zc_X7_become_266, b_X7_become_266, zif, zdr, zkb, mK_wi, mN_wi, mJ_wi, mI_wi, sI_wi, beq_self_eq_true, Bool.true_or, Bool.or_true, Bool.or_false, Bool.and_self, Bool.and_true, Bool.true_and, ↓reduceIte, ble_up0, i_cl, i_succ, zix_of, zfl_k, zup_k, zup_q, p0, ps1, ps2, ps3, pt1, pt2, pt3, pl1, pl2, pl3, pc1, pc2, pc3, pw1, pw2, pw3, pn1, pn2, pn3, py1, py2, py3, pf1, pf2, pf3, pg1, pg2, pg3, vp0, vps1, vps2, vps3, vpt1, vpt2, vpt3, vpl1, vpl2, vpl3, vpc1, vpc2, vpc3, vpw1, vpw2, vpw3, vpn1, vpn2, vpn3, vpy1, vpy2, vpy3, vpf1, vpf2, vpf3, vpg1, vpg2, vpg3, e0, i_le, hl]
    exact ev_bk this
theorem sp_X7_become (hB : E.1 ≤ t) (hBu : E.1 ≤ u) (hS : mTS S t) (hU : mTS S u) (hn : nd ≤ 16) (hg : ng ≤ 4) (hns : ns ≤ 2000) (hd : t + 10 ≤ u ∨ u + 10 ≤ t) (hP : mP I u nd ng T) (h0 : T 0 0 = Int32.ofNat nd) (h12 : T 0 12 = Int32.ofNat ns) (h13 : T 0 13 = Int32.ofNat ng) : ∃ I', zCl E (d + 1) 180 [zr (some t), zr (some u)] (zwi S I) (Sum.inl none, zwi S I') ∧ mP I' t nd ng T ∧ I' t 1 = I u 1 ∧ (∀ k, k < ns → I' (t + 6) k = I (u + 6) k ∧ I' (t + 7) k = I (u + 7) k) ∧ zfI t (t + 10) I I' := by
  obtain ⟨I1, a1, b1, l1, c1⟩ := sp_X7_begin (E := E) (d := d) (I := I) (a2 := T 0 1) (a3 := T 0 2) (a4 := T 0 3) (a5 := T 0 4) hB hS hn
  have hP1 : mP I1 u nd ng T := hP.fr (fun a k h1 h2 => c1 a k (by omega))
  have hJ1 : ∀ a k, u ≤ a → a < u + 10 → I1 a k = I a k := fun a k h1 h2 => c1 a k (by omega)
  have e11 : I1 u 11 = Int32.ofNat ns := hP1.un.2.1.2.2.2.2.2.1.trans h12
  have e12 : I1 u 12 = Int32.ofNat ng := hP1.un.2.1.2.2.2.2.2.2.trans h13
  have hU' := hU
  have hS' := hS
  obtain ⟨p0, ⟨ps1, ps2, ps3⟩, ⟨pt1, pt2, pt3⟩, ⟨pl1, pl2, pl3⟩, ⟨pc1, pc2, pc3⟩, ⟨pw1, pw2, pw3⟩, ⟨pn1, pn2, pn3⟩, ⟨py1, py2, py3⟩, ⟨pf1, pf2, pf3⟩, ⟨pg1, pg2, pg3⟩⟩ := hS
  obtain ⟨vp0, ⟨vps1, vps2, vps3⟩, ⟨vpt1, vpt2, vpt3⟩, ⟨vpl1, vpl2, vpl3⟩, ⟨vpc1, vpc2, vpc3⟩, ⟨vpw1, vpw2, vpw3⟩, ⟨vpn1, vpn2, vpn3⟩, ⟨vpy1, vpy2, vpy3⟩, ⟨vpf1, vpf2, vpf3⟩, ⟨vpg1, vpg2, vpg3⟩⟩ := hU
  refine ⟨?w, ?a, ?b, ?c, ?e, ?f⟩
  case a =>
    have hu := hP.un
    obtain ⟨⟨x0, x1, x2, x3, x4, x5, x6⟩, ⟨x7, x8, x9, x10, x11, x12, x13⟩, -⟩ := hu
    refine zcl_in' zP_X7_become ?_; rw [zn_2_3]
    refine zat_in zP_X7_become zk_X7_become_0 ?_
    simp (disch := omega) only [b_X7_become_0, zif, zdr, zkb, mK_wi, mN_wi, mJ_wi, mI_wi, sI_wi, beq_self_eq_true, Bool.true_or, Bool.or_true, Bool.or_false, Bool.and_self, Bool.and_true, Bool.true_and, ↓reduceIte, ble_up0, i_cl, i_succ, zix_of, zfl_k, zup_k, zup_q, p0, ps1, ps2, ps3, pt1, pt2, pt3, pl1, pl2, pl3, pc1, pc2, pc3, pw1, pw2, pw3, pn1, pn2, pn3, py1, py2, py3, pf1, pf2, pf3, pg1, pg2, pg3, vp0, vps1, vps2, vps3, vpt1, vpt2, vpt3, vpl1, vpl2, vpl3, vpc1, vpc2, vpc3, vpw1, vpw2, vpw3, vpn1, vpn2, vpn3, vpy1, vpy2, vpy3, vpf1, vpf2, vpf3, vpg1, vpg2, vpg3, x0, x1, x2, x3, x4, h0]
    refine ev_cv a1 ?_
    simp (disch := omega) only [zc_X7_become_48, b_X7_become_48, zc_X7_become_72, b_X7_become_72, zc_X7_become_96, b_X7_become_96, zif, zdr, zkb, mK_wi, mN_wi, mJ_wi, mI_wi, sI_wi, beq_self_eq_true, Bool.true_or, Bool.or_true, Bool.or_false, Bool.and_self, Bool.and_true, Bool.true_and, ↓reduceIte, ble_up0, i_cl, i_succ, zix_of, zfl_k, zup_k, zup_q, p0, ps1, ps2, ps3, pt1, pt2, pt3, pl1, pl2, pl3, pc1, pc2, pc3, pw1, pw2, pw3, pn1, pn2, pn3, py1, py2, py3, pf1, pf2, pf3, pg1, pg2, pg3, vp0, vps1, vps2, vps3, vpt1, vpt2, vpt3, vpl1, vpl2, vpl3, vpc1, vpc2, vpc3, vpw1, vpw2, vpw3, vpn1, vpn2, vpn3, vpy1, vpy2, vpy3, vpf1, vpf2, vpf3, vpg1, vpg2, vpg3, mI_wi]
    refine ev_tl zP_X7_become zk_X7_become_106 (lp_X7_become_a (J := I1) hB hBu hS' hU' hd 16 0 (by omega) _ (fun a j h1 h2 => by simp (disch := omega) only [zfl_k, zfl_q, zup_k, zup_q]) _ ?_)
    refine zat_in zP_X7_become zk_X7_become_154 ?_
    simp only [b_X7_become_154]
    refine ev_tl zP_X7_become zk_X7_become_156 (lp_X7_become_b (J := I1) hB hBu hS' hU' hd 13 0 (by omega) _ (fun a j h1 h2 => by simp (disch := omega) only [zfl_k, zfl_q, zup_k, zup_q]) _ ?_)
    refine zat_in zP_X7_become zk_X7_become_192 ?_
    simp only [b_X7_become_192]
    refine ev_tl zP_X7_become zk_X7_become_194 (lp_X7_become_c (J := I1) hB hBu hS' hU' hd hns ns 0 (by omega) _ (by simp (disch := omega) only [zfl_k, zfl_q, zup_k, zup_q, e11]) (fun a j h1 h2 => by simp (disch := omega) only [zfl_k, zfl_q, zup_k, zup_q]) _ ?_)
    refine zat_in zP_X7_become zk_X7_become_232 ?_
    simp only [b_X7_become_232]
    refine ev_tl zP_X7_become zk_X7_become_234 ?_
    refine lp_X7_become_d (J := I1) hB hBu hS' hU' hd hg ng 0 (by omega) _ ?_ ?_
    · simp (disch := omega) only [zfl_k, zfl_q, zup_k, zup_q, e12]
    · intro a j h1 h2
      simp (disch := omega) only [zfl_k, zfl_q, zup_k, zup_q]
  case b =>
    obtain ⟨⟨x0, x1, x2, x3, x4, x5, x6⟩, ⟨x7, x8, x9, x10, x11, x12, x13⟩, xr1, xr2, xr3, xr4, xr5, xr6, xr7⟩ := hP1.un
    obtain ⟨⟨y0, y1, y2, y3, y4, y5, y6⟩, -⟩ := b1.un
    refine mP.mk ⟨?_, ?_, ?_, ?_, ?_, ?_, ?_⟩ ⟨?_, ?_, ?_, ?_, ?_, ?_, ?_⟩ (fun j hj => ?_) (fun j hj => ?_) (fun j hj => ?_) (fun j hj => ?_) (fun j hj => ?_) (fun j hj => ?_) (fun j hj => ?_)
    all_goals (simp (disch := omega) only [zfl_k, zfl_q, zup_k, zup_q, zfc_e, x0, x1, x2, x3, x4, x5, x6, x7, x8, x9, x10, x11, x12, x13, xr1, xr2, xr3, xr4, xr5, xr6, xr7])
    all_goals (first | exact y0.trans h0.symm | exact y1 | exact y2 | exact y3 | exact y4)
  case c =>
    simp (disch := omega) only [zfl_k, zfl_q, zup_k, zup_q, hJ1]
  case e =>
    intro k hk
    constructor <;> simp (disch := omega) only [zfl_k, zfl_q, zup_k, zup_q, zfc_e, hJ1]
  case f =>
    repeat' (first | exact c1 | refine zfI.put ?_ (by omega) (by omega) | refine zfI.fl ?_ (by omega) (by omega))
end
