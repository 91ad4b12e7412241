/-! ===== run (model): the teams are led, then they sign ===== -/
set_option maxRecDepth 100000
section
variable {E : zE} {d w t st np : Nat} {S : zM} {I J : Nat → Nat → Int32} {V : zT} {T : zT} {TT : Nat → zT} {L : zPL}
theorem mSg_eq {T U : zT} (h : mSg I t T) (h8 : ∀ j, U 8 j = T 8 j) (hf : ∀ a k, (a = t + 6 ∨ a = t + 7) → J a k = I a k) : mSg J t U := by
  intro s h1 h2
  rw [h8] at h2
  rw [cS_eq h8, hf _ _ (Or.inl rfl), hf _ _ (Or.inr rfl), h8]
  exact h s h1 h2
theorem lp_X6_run_a {x1 x2 : Int32} {u4 : Option zV} (hB : E.1 ≤ w) (hS : mCS S w) (hW : WT V TT st np) (hst : st < 2000) (hnp : np ≤ 8) : ∀ c k : Nat, k + c = nn (V 0 1) → ∀ (I : Nat → Nat → Int32), wP I w V → (∀ p, p < np → mPl I w p L) → (∀ j, k ≤ j → j < nn (V 0 1) → mTP I (w + 28 + 20 * j) (TT j)) → ∃ I', (∀ r, zAt E (d + 6) 154 79 [some (zr (some w)), some (zi x1), some (zi x2), some (zi (Int32.ofNat (nn (V 0 1)))), u4] [] (zwi S I') r → zAt E (d + 6) 154 51 [some (zr (some w)), some (zi x1), some (zi x2), some (zi (Int32.ofNat k)), u4] [] (zwi S I) r) ∧ (∀ j, k ≤ j → j < nn (V 0 1) → mTP I' (w + 28 + 20 * j) (tstp (TT j) V L (nn (TT j 0 0)) (nn (TT j 0 6)) (nn (TT j 0 4)) st)) ∧ (∀ a i, ¬ (w + 28 ≤ a ∧ a < w + 148 ∧ (a - (w + 28)) % 20 < 10) → I' a i = I a i) ∧ zfI (w + 28 + 20 * k) (w + 148) I I' := by
  obtain ⟨⟨hw1, ⟨w1, w2, w3⟩, w4⟩, -, hps, -⟩ := hS
  have w0 := hw1.1
  obtain ⟨hV, hs2, hT⟩ := hW
  have hnt := hV.2.1
  have hnt2 := hnt.2
  intro c
  induction c with
  | zero =>
    intro k hk I hP hL hJ
    obtain rfl : k = nn (V 0 1) := hk
    have e1 : I w 5 = Int32.ofNat (nn (V 0 1)) := hP.un.1.2.1.trans hnt.1
    refine ⟨I, fun r hr => ?_, fun j h1 h2 => by omega, fun _ _ _ => rfl, zfI.rf⟩
    refine zat_in zP_X6_run zk_X6_run_51 ?_
    simp (disch := omega) only [b_X6_run_51, zif, zdr, zkb, mK_wi, mN_wi, mJ_wi, mI_wi, sI_wi, beq_self_eq_true, Bool.true_or, Bool.or_true, Bool.or_false, Bool.and_self, Bool.and_true, Bool.true_and, ↓reduceIte, w0, e1, i_le, Nat.le_refl]
    exact ev_bk hr
  | succ c ih =>
    intro k hk I hP hL hJ
    have e1 : I w 5 = Int32.ofNat (nn (V 0 1)) := hP.un.1.2.1.trans hnt.1
    have e2 : I w 6 = Int32.ofNat st := hP.un.1.2.2.1.trans hs2
    have hl : (nn (V 0 1) ≤ k) = False := eq_false (by omega)
    obtain ⟨g1, g2⟩ := w4 k (by omega)
    obtain ⟨hTI, hSI, hp⟩ := hT k (by omega)
    obtain ⟨hTP, hLd, hSg⟩ := hJ k (by omega) (by omega)
    have t0 := hTI.1.1
    have t4 := hTI.1.2.2.1
    have t6 := hTI.2.1
    obtain ⟨I1, a1, p1, c1, l1⟩ := sp_X6_leads (E := E) (d := d) (s := st) (p := nn (TT k 0 4)) (by omega) hps g1 hw1 (by omega) t0.2 hTP hLd hP (hL _ hp) t0.1 t4.1 (by omega) t6.1 hst (hon_of hV hst hTI)
    have f0 : tstp (TT k) V L (nn (TT k 0 0)) (nn (TT k 0 6)) (nn (TT k 0 4)) st 0 0 = TT k 0 0 := tstp_k (by simp [kpt])
    have f13 : tstp (TT k) V L (nn (TT k 0 0)) (nn (TT k 0 6)) (nn (TT k 0 4)) st 0 13 = TT k 0 13 := tstp_k (by simp [kpt])
    have hd2 : mTP I1 (w + 28 + 20 * k) (tstp (TT k) V L (nn (TT k 0 0)) (nn (TT k 0 6)) (nn (TT k 0 4)) st) := by
      refine ⟨?_, ?_, mSg_eq hSg (fun j => tstp_k (by simp [kpt])) (fun a i h => c1 a i (by omega))⟩
      · rw [f0, f13]; exact p1
      · rw [f0]; exact l1
    obtain ⟨I3, a3, p3, c3, c4⟩ := ih (k + 1) (by omega) I1 (hP.fr (fun a i h1 h2 => c1 a i (by omega))) (fun p hp => (hL p hp).fr (fun a i h1 h2 => c1 a i (by omega))) (fun j h1 h2 => (hJ j (by omega) h2).fr (fun a i h3 h4 => c1 a i (by omega)))
    refine ⟨I3, fun r hr => ?_, fun j h1 h2 => ?_, fun a i h => (c3 a i h).trans (c1 a i (by omega)), (c1.wide (by omega) (by omega)).tr (c4.wide (by omega) (by omega))⟩
    · refine zat_in zP_X6_run zk_X6_run_51 ?_
      simp (disch := omega) only [b_X6_run_51, zif, zdr, zkb, mK_wi, mN_wi, mJ_wi, mI_wi, sI_wi, beq_self_eq_true, Bool.true_or, Bool.or_true, Bool.or_false, Bool.and_self, Bool.and_true, Bool.true_and, ↓reduceIte, ble_up0, i_cl, i_succ, zix_of, zfl_k, zup_k, zup_q, w0, w1, w2, w3, e1, e2, i_le, hl, g2]
      exact ev_cv a1 (ev_bk (a3 r hr))
    · by_cases e : j = k
      · subst e
        exact hd2.fr (fun a i h3 h4 => c4 a i (by omega))
      · exact p3 j (by omega) h2
/-- one team signs -/
theorem X6_run_s {x1 x2 : Int32} {u4 : Option zV} {k nt : Nat} (hB : E.1 ≤ w) (hS : mCS S w) (hnt : nt ≤ 6) (hk : k < nt) (e5 : I w 5 = Int32.ofNat nt) (hV : WV V) (hs2 : V 0 2 = Int32.ofNat st) (hst : st < 2000) (hP : wP I w V) (hT : mTP I (w + 28 + 20 * k) T) (hTI : TI V (st + 1) T) (hSI : SI st T) : ∃ I' u', (∀ r, zAt E (d + 1) 154 175 [some (zr (some w)), some (zi x1), some (zi x2), some (zi (Int32.ofNat k)), some (zr u')] [] (zwi S I') r → zAt E (d + 1) 154 81 [some (zr (some w)), some (zi x1), some (zi x2), some (zi (Int32.ofNat k)), u4] [] (zwi S I) r) ∧ mTP I' (w + 28 + 20 * k) (tsgn T V (nn (T 0 13)) (nn (T 0 6)) st (V 0 3)) ∧ zfI (w + 28 + 20 * k) (w + 28 + 20 * k + 10) I I' := by
  obtain ⟨⟨hw1, ⟨w1, w2, w3⟩, w4⟩, -, hps, -⟩ := hS
  have w0 := hw1.1
  obtain ⟨g1, g2⟩ := w4 k (by omega)
  have g1' := g1
  obtain ⟨p0, ⟨ps1, ps2, ps3⟩, ⟨pt1, pt2, pt3⟩, ⟨pl1, pl2, pl3⟩, ⟨pc1, pc2, pc3⟩, ⟨pw1, pw2, pw3⟩, ⟨pn1, pn2, pn3⟩, ⟨py1, py2, py3⟩, ⟨pf1, pf2, pf3⟩, ⟨pg1, pg2, pg3⟩⟩ := g1
  have e6 : I w 6 = Int32.ofNat st := hP.un.1.2.2.1.trans hs2
  have e7 : I w 7 = V 0 3 := hP.un.1.2.2.2
  have he : (V 0 3 != 0) = true := by simpa using hV.2.2.2.1.2
  have hl : (nt ≤ k) = False := eq_false (by omega)
  obtain ⟨hP1, hLd, hSg⟩ := hT
  have t13 := hTI.1.2.1
  have t6 := hTI.2.1
  have hga := sp_X7_inGap (E := E) (d := d) (st := Int32.ofNat st) g1' t13.2 hP1 t13.1
  have ex5 : I (w + 28 + 20 * k) 5 = T 0 5 := hP1.un.1.2.2.2.2.2.1
  unfold tsgn tsg
  by_cases c1 : Int32.ofNat st - Int32.ofNat st / V 0 3 * V 0 3 = 0
  · by_cases c2 : T 0 5 = 0
    · rw [if_neg (by simp [c2])]
      refine ⟨I, some (w + 28 + 20 * k), fun r hr => ?_, ⟨hP1, hLd, hSg⟩, zfI.rf⟩
      refine zat_in zP_X6_run zk_X6_run_81 ?_
      simp (disch := omega) only [b_X6_run_81, zif, zdr, zkb, mK_wi, mN_wi, mJ_wi, mI_wi, sI_wi, beq_self_eq_true, Bool.true_or, Bool.or_true, Bool.or_false, Bool.and_self, Bool.and_true, Bool.true_and, ↓reduceIte, ble_up0, i_cl, i_succ, zix_of, zfl_k, zup_k, zup_q, w0, w1, w2, w3, e5, e6, e7, he, i_le, hl, g2, p0, ex5, eq_true c1, eq_true c2]
      exact ev_bk hr
    · by_cases c3 : tgap T (Int32.ofNat st) (nn (T 0 13)) = 0
      · rw [if_pos (by simp [c1, c2, c3])]
        obtain ⟨wy1, wy2⟩ := tway_TI hV hTI
        obtain ⟨wy3, wy4⟩ := wy2 c2
        have hns := hSI.1
        have hend := cS_end (SI_none hSI) (2000 - st) (by omega)
        rw [show st + (2000 - st) = 2000 by omega] at hend
        have hle := cS_le (T := T) st
        have x12 : I (w + 28 + 20 * k) 11 = Int32.ofNat (cS T 2000) := hP1.un.2.1.2.2.2.2.2.1.trans hns
        have hz : zix (Int32.ofNat (cS T 2000)) 2000 = true := zix_of (by omega) (by omega)
        have hn1 := SI_none hSI st (by omega) (by omega)
        have hwn1 : tway (T 0 7) V (nn (T 0 6)) ≠ -1 := by
          have h3 : nn (T 0 3) ≤ 100 := hTI.1.2.2.2.1.2
          rw [wy1]
          exact i_ne1 (by omega)
        have hway := sp_X6_way (E := E) (d := d) (I := zup I (w + 28 + 20 * k + 6) (cS T 2000) (Int32.ofNat st)) (lg := nn (T 0 6)) (V := V) (T := T) (nd := nn (T 0 0)) (ng := nn (T 0 13)) g1' hw1 (by
          obtain ⟨⟨x0, x1, x2, x3, x4, x5, x6⟩, ⟨x7, x8, x9, x10, x11, x12, x13⟩, xr1, xr2, xr3, xr4, xr5, xr6, xr7⟩ := hP1.un
          refine mP.mk ⟨?_, ?_, ?_, ?_, ?_, ?_, ?_⟩ ⟨?_, ?_, ?_, ?_, ?_, ?_, ?_⟩ (fun j hj => ?_) (fun j hj => ?_) (fun j hj => ?_) (fun j hj => ?_) (fun j hj => ?_) (fun j hj => ?_) (fun j hj => ?_)
          all_goals (simp (disch := omega) only [zfl_k, zfl_q, zup_k, zup_q, x0, x1, x2, x3, x4, x5, x6, x7, x8, x9, x10, x11, x12, x13, xr1, xr2, xr3, xr4, xr5, xr6, xr7])) (hP.fr (fun a i h1 h2 => zup_k (by omega))) t6.1 t6.2
        generalize tway (T 0 7) V (nn (T 0 6)) = wy at *
        have k0 : ∀ (b : Int32) (j : Nat), j ≠ 12 → zup (zup T 8 st wy) 0 12 b 0 j = T 0 j := fun b j hj => by simp [zup, hj]
        have ki : ∀ (b : Int32) (i j : Nat), i ≠ 0 → i ≠ 8 → zup (zup T 8 st wy) 0 12 b i j = T i j := fun b i j h1 h2 => by simp [zup, h1, h2]
        refine ⟨zup (zup (zup I (w + 28 + 20 * k + 6) (cS T 2000) (Int32.ofNat st)) (w + 28 + 20 * k + 7) (cS T 2000) wy) (w + 28 + 20 * k) 11 (Int32.ofNat (cS T 2000 + 1)), some (w + 28 + 20 * k), fun r hr => ?_, ⟨?_, ?_, ?_⟩, ?_⟩
        · refine zat_in zP_X6_run zk_X6_run_81 ?_
          simp (disch := omega) only [b_X6_run_81, zif, zdr, zkb, mK_wi, mN_wi, mJ_wi, mI_wi, sI_wi, beq_self_eq_true, Bool.true_or, Bool.or_true, Bool.or_false, Bool.and_self, Bool.and_true, Bool.true_and, ↓reduceIte, ble_up0, i_cl, i_succ, zix_of, zfl_k, zup_k, zup_q, w0, w1, w2, w3, e5, e6, e7, he, i_le, hl, g2, p0, ex5, eq_true c1, eq_false c2]
          refine ev_ci hga ?_
          simp only [eq_true c3, ↓reduceIte]
          refine ev_bk ?_
          refine zat_in zP_X6_run zk_X6_run_132 ?_
          simp (disch := omega) only [b_X6_run_132, zif, zdr, zkb, mK_wi, mN_wi, mJ_wi, mI_wi, sI_wi, beq_self_eq_true, Bool.true_or, Bool.or_true, Bool.or_false, Bool.and_self, Bool.and_true, Bool.true_and, ↓reduceIte, ble_up0, i_cl, i_succ, zix_of, zfl_k, zup_k, zup_q, p0, ps1, ps2, ps3, pt1, pt2, pt3, pl1, pl2, pl3, pc1, pc2, pc3, pw1, pw2, pw3, pn1, pn2, pn3, py1, py2, py3, pf1, pf2, pf3, pg1, pg2, pg3, x12, w0, e6, hz]
          refine ev_ci hway ?_
          simp (disch := omega) only [zc_X6_run_164, b_X6_run_164, zif, zdr, zkb, mK_wi, mN_wi, mJ_wi, mI_wi, sI_wi, beq_self_eq_true, Bool.true_or, Bool.or_true, Bool.or_false, Bool.and_self, Bool.and_true, Bool.true_and, ↓reduceIte, ble_up0, i_cl, i_succ, zix_of, zfl_k, zup_k, zup_q, p0, ps1, ps2, ps3, pt1, pt2, pt3, pl1, pl2, pl3, pc1, pc2, pc3, pw1, pw2, pw3, pn1, pn2, pn3, py1, py2, py3, pf1, pf2, pf3, pg1, pg2, pg3, x12, w0, e6, hz]
          refine ev_tl zP_X6_run zk_X6_run_175 ?_
          exact hr
        · rw [k0 _ 0 (by omega), k0 _ 13 (by omega)]
          obtain ⟨⟨x0, x1, x2, x3, x4, x5, x6⟩, ⟨x7, x8, x9, x10, x11, x12, x13⟩, xr1, xr2, xr3, xr4, xr5, xr6, xr7⟩ := hP1.un
          refine mP.mk ⟨?_, ?_, ?_, ?_, ?_, ?_, ?_⟩ ⟨?_, ?_, ?_, ?_, ?_, ?_, ?_⟩ (fun j hj => ?_) (fun j hj => ?_) (fun j hj => ?_) (fun j hj => ?_) (fun j hj => ?_) (fun j hj => ?_) (fun j hj => ?_)
          all_goals (simp (disch := omega) only [zfl_k, zfl_q, zup_k, zup_q, x0, x1, x2, x3, x4, x5, x6, x7, x8, x9, x10, x11, x12, x13, xr1, xr2, xr3, xr4, xr5, xr6, xr7, hns, i_succ])
        · rw [k0 _ 0 (by omega), zup_k (by omega), zup_k (by omega), zup_k (by omega), hLd]
          exact (tload_eq (k0 _ 1 (by omega)) (fun j _ => ki _ 2 j (by omega) (by omega))).symm
        · intro s h1 h2
          rw [cS_q, cS_up hn1 hwn1]
          rw [zup_k (by omega)] at h2
          by_cases q : s = st
          · subst q
            rw [if_neg (by omega), ← hend]
            constructor
            · simp (disch := omega) only [zfl_k, zfl_q, zup_k, zup_q, Nat.add_zero]
            · simp (disch := omega) only [zfl_k, zfl_q, zup_k, zup_q, Nat.add_zero]
          · rw [zup_k (by omega)] at h2
            obtain ⟨q1, q2, q3⟩ := hSI.2 s h1 h2
            have q4 := cS_lt h1 h2
            rw [if_neg (by omega)]
            obtain ⟨q5, q6⟩ := hSg s h1 h2
            constructor
            · simp (disch := omega) only [zfl_k, zfl_q, zup_k, zup_q, Nat.add_zero]
              exact q5
            · simp (disch := omega) only [zfl_k, zfl_q, zup_k, zup_q, Nat.add_zero]
              exact q6
        · exact ((zfI.rf.put (by omega) (by omega)).put (by omega) (by omega)).put (by omega) (by omega)
      · rw [if_neg (by simp [c1, c2, c3])]
        refine ⟨I, some (w + 28 + 20 * k), fun r hr => ?_, ⟨hP1, hLd, hSg⟩, zfI.rf⟩
        refine zat_in zP_X6_run zk_X6_run_81 ?_
        simp (disch := omega) only [b_X6_run_81, zif, zdr, zkb, mK_wi, mN_wi, mJ_wi, mI_wi, sI_wi, beq_self_eq_true, Bool.true_or, Bool.or_true, Bool.or_false, Bool.and_self, Bool.and_true, Bool.true_and, ↓reduceIte, ble_up0, i_cl, i_succ, zix_of, zfl_k, zup_k, zup_q, w0, w1, w2, w3, e5, e6, e7, he, i_le, hl, g2, p0, ex5, eq_true c1, eq_false c2]
        refine ev_ci hga ?_
        simp only [eq_false c3, ↓reduceIte]
        exact ev_bk hr
  · rw [if_neg (by simp [c1])]
    refine ⟨I, some (w + 28 + 20 * k), fun r hr => ?_, ⟨hP1, hLd, hSg⟩, zfI.rf⟩
    refine zat_in zP_X6_run zk_X6_run_81 ?_
    simp (disch := omega) only [b_X6_run_81, zif, zdr, zkb, mK_wi, mN_wi, mJ_wi, mI_wi, sI_wi, beq_self_eq_true, Bool.true_or, Bool.or_true, Bool.or_false, Bool.and_self, Bool.and_true, Bool.true_and, ↓reduceIte, ble_up0, i_cl, i_succ, zix_of, zfl_k, zup_k, zup_q, w0, w1, w2, w3, e5, e6, e7, he, i_le, hl, g2, p0, ex5, eq_false c1]
    exact ev_bk hr
end
