/-! ===== run (x) ===== -/
set_option maxRecDepth 100000
/-- the component's objects at their places -/
def xCS (S : zM) (B : Nat) : Prop := mK S B = 1 ∧ (mJ S B 3 = some (B + 5) ∧ mJ S B 4 = some (B + 148) ∧ mJ S B 5 = some (B + 291)) ∧ xWT S (B + 5) ∧ xWT S (B + 148) ∧ xTS S (B + 291) ∧ (mJ S B 7 = some (B + 314) ∧ mK S (B + 314) = 109 ∧ mN S (B + 314) = 8) ∧ (mJ S B 8 = some (B + 315) ∧ mK S (B + 315) = 110 ∧ mN S (B + 315) = 10) ∧ (mJ S B 9 = some (B + 316) ∧ mK S (B + 316) = 110 ∧ mN S (B + 316) = 10) ∧ (mJ S B 12 = some (B + 317) ∧ mK S (B + 317) = 3) ∧ (mJ S B 0 = some (B + 1) ∧ mK S (B + 1) = 102 ∧ mN S (B + 1) = 400) ∧ mJ S B 2 = some (B + 2) ∧ mK S (B + 2) = 2 ∧ (mJ S (B + 2) 0 = some (B + 3) ∧ mK S (B + 3) = 3) ∧ mJ S (B + 2) 1 = some (B + 1) ∧ mJ S (B + 2) 2 = some (B + 4) ∧ mK S (B + 4) = 103 ∧ mN S (B + 4) = 8
def xPT (S : zM) (I : Nat → Nat → Int32) (lo pl np : Nat) (L : zPL) : Prop := np ≤ 8 ∧ ∀ p, p < np → ∃ pa, mJ S pl p = some pa ∧ xPl S I lo pa p L
theorem xPT.fr {S : zM} {I J : Nat → Nat → Int32} {lo pl np : Nat} {L : zPL} (hf : ∀ a k, lo ≤ a → J a k = I a k) (h : xPT S I lo pl np L) : xPT S J lo pl np L := ⟨h.1, fun p hp => by
  obtain ⟨pa, h1, h2⟩ := h.2 p hp
  exact ⟨pa, h1, h2.fr hf⟩⟩
/-- what is given of a world's teams -/
def WT (V : zT) (TT : Nat → zT) (st np : Nat) : Prop := WV V ∧ V 0 2 = Int32.ofNat st ∧ ∀ j, j < nn (V 0 1) → TI V st (TT j) ∧ SI st (TT j) ∧ nn (TT j 0 4) < np
section
variable {E : zE} {d B st np : Nat} {S : zM} {I J : Nat → Nat → Int32} {V : zT} {TT : Nat → zT} {L : zPL}
theorem lp_X0_run_a {x1 x2 : Int32} (hB : E.1 ≤ B) (hS : xCS S B) (hW : WT V TT st np) (hst : st < 2000) : ∀ c k : Nat, k + c = nn (V 0 1) → ∀ (I : Nat → Nat → Int32) (u4 : Option zV), wP I (B + 5) V → xPT S I (B + 466) (B + 314) np L → (∀ j, k ≤ j → j < nn (V 0 1) → xTP I (B + 5 + 5 + 23 * j) (TT j)) → ∃ I' u', (∀ r, zAt E (d + 8) 50 128 [some (zr (some B)), some (zi x1), some (zi x2), some (zi (Int32.ofNat (nn (V 0 1)))), u'] [] (zwi S I') r → zAt E (d + 8) 50 58 [some (zr (some B)), some (zi x1), some (zi x2), some (zi (Int32.ofNat k)), u4] [] (zwi S I) r) ∧ (∀ j, k ≤ j → j < nn (V 0 1) → xTP I' (B + 5 + 5 + 23 * j) (tfs V L st (TT j))) ∧ zfI (B + 5 + 5 + 23 * k) (B + 148) I I' := by
  obtain ⟨b0, ⟨b3, b4, b5⟩, hw, -, -, ⟨b7, bk7, bn7⟩, -⟩ := hS
  have hw' := hw.1
  obtain ⟨⟨w0, -⟩, ⟨w1, w2, w3⟩, w4⟩ := hw
  obtain ⟨hV, hs2, hT⟩ := hW
  have hnt := hV.2.1
  have hnt2 := hnt.2
  intro c
  induction c with
  | zero =>
    intro k hk I u4 hP hL hJ
    obtain rfl : k = nn (V 0 1) := hk
    have e1 : I (B + 5) 5 = Int32.ofNat (nn (V 0 1)) := hP.un.1.2.1.trans hnt.1
    refine ⟨I, u4, fun r hr => ?_, fun j h1 h2 => by omega, zfI.rf⟩
    refine zat_in zP_X0_run zk_X0_run_58 ?_
    simp (disch := omega) only [b_X0_run_58, zif, zdr, zkb, mK_wi, mN_wi, mJ_wi, mI_wi, sI_wi, beq_self_eq_true, Bool.true_or, Bool.or_true, Bool.or_false, Bool.and_self, Bool.and_true, Bool.true_and, ↓reduceIte, b0, b3, w0, e1, i_le, Nat.le_refl]
    exact ev_bk hr
  | succ c ih =>
    intro k hk I u4 hP hL hJ
    have e1 : I (B + 5) 5 = Int32.ofNat (nn (V 0 1)) := hP.un.1.2.1.trans hnt.1
    have e2 : I (B + 5) 6 = Int32.ofNat st := hP.un.1.2.2.1.trans hs2
    have hl : (nn (V 0 1) ≤ k) = False := eq_false (by omega)
    obtain ⟨g1, g2⟩ := w4 k (by omega)
    obtain ⟨hTI, hSI, hp⟩ := hT k (by omega)
    have hTP := hJ k (by omega) (by omega)
    have t0 := hTI.1.1
    have t13 := hTI.1.2.1
    have t4 := hTI.1.2.2.1
    have t6 := hTI.2.1
    obtain ⟨pa, hpa, hpl⟩ := hL.2 _ hp
    have hL1 := hL.1
    have e3 : I (B + 5 + 5 + 23 * k) 5 = Int32.ofNat (nn (TT k 0 4)) := hTP.un.1.2.2.2.2.1.trans t4.1
    obtain ⟨I1, a1, p1, c1⟩ := sp_X4_step (E := E) (d := d) (s := st) (p := nn (TT k 0 4)) (by omega) g1 hw' (by omega) (by omega) t0.2 hTP hP hpl t0.1 t6.1 hst (hon_of hV hst hTI)
    have hP1 : wP I1 (B + 5) V := hP.fr (fun a i h1 h2 => c1 a i (by omega))
    have hTI1 := tstp_TI (L := L) (p := nn (TT k 0 4)) hV hst hTI
    have e4 : I1 (B + 5) 6 = Int32.ofNat st := hP1.un.1.2.2.1.trans hs2
    have he : (V 0 3 != 0) = true := by simpa using hV.2.2.2.1.2
    have k13 : tstp (TT k) V L (nn (TT k 0 0)) (nn (TT k 0 6)) (nn (TT k 0 4)) st 0 13 = Int32.ofNat (nn (TT k 0 13)) := (tstp_k (by simp [kpt])).trans t13.1
    obtain ⟨I2, a2, p2, c2⟩ := sp_X4_sign (E := E) (d := d + 6) (s := st) (lg := nn (tstp (TT k) V L (nn (TT k 0 0)) (nn (TT k 0 6)) (nn (TT k 0 4)) st 0 6)) (by omega) g1 hw' t0.2 t13.2 p1 hP1 k13 hTI1.2.1.1 hTI1.2.1.2 hst he
    have f0 : tfs V L st (TT k) 0 0 = TT k 0 0 := tfs_0 (by omega)
    have f13 : tfs V L st (TT k) 0 13 = TT k 0 13 := tfs_0 (by omega)
    have hd2 : xTP I2 (B + 5 + 5 + 23 * k) (tfs V L st (TT k)) := by
      unfold xTP
      rw [f0, f13]
      exact p2
    have c12 := c1.tr c2
    obtain ⟨I3, u', a3, p3, c3⟩ := ih (k + 1) (by omega) I2 (some (zr (some (B + 5 + 5 + 23 * k)))) (hP.fr (fun a i h1 h2 => c12 a i (by omega))) (hL.fr (fun a i h => c12 a i (by omega))) (fun j h1 h2 => (hJ j (by omega) h2).fr (hT j h2).1.1.1 (fun a i h3 h4 => c12 a i (by omega)))
    refine ⟨I3, u', fun r hr => ?_, fun j h1 h2 => ?_, (c12.wide (by omega) (by omega)).tr (c3.wide (by omega) (by omega))⟩
    · refine zat_in zP_X0_run zk_X0_run_58 ?_
      simp (disch := omega) only [b_X0_run_58, zif, zdr, zkb, mK_wi, mN_wi, mJ_wi, mI_wi, sI_wi, beq_self_eq_true, Bool.true_or, Bool.or_true, Bool.or_false, Bool.and_self, Bool.and_true, Bool.true_and, ↓reduceIte, ble_up0, i_cl, i_succ, zix_of, zfl_k, zup_k, zup_q, b0, b3, b7, bk7, bn7, w0, w1, w2, w3, e1, e2, e3, i_le, hl, g2, g1.1.1, hpa]
      refine ev_cv a1 ?_
      simp (disch := omega) only [zif, zdr, zkb, mK_wi, mN_wi, mJ_wi, mI_wi, sI_wi, beq_self_eq_true, Bool.true_or, Bool.or_true, Bool.or_false, Bool.and_self, Bool.and_true, Bool.true_and, ↓reduceIte, ble_up0, i_cl, i_succ, zix_of, zfl_k, zup_k, zup_q, b0, b3, b7, bk7, bn7, w0, w1, w2, w3, e4, g2, g1.1.1]
      exact ev_cv a2 (ev_bk (a3 r hr))
    · by_cases e : j = k
      · subst e
        exact hd2.fr (by rw [f0]; exact t0) (fun a i h3 h4 => c3 a i (by omega))
      · exact p3 j (by omega) h2
end
