/-! ===== run (model), whole ===== -/
set_option maxRecDepth 100000
section
variable {E : zE} {d w n st np : Nat} {S : zM} {I J : Nat → Nat → Int32} {V : zT} {TT : Nat → zT} {L : zPL} {G : zGl}
theorem lp_X6_run_b {x1 x2 : Int32} (hB : E.1 ≤ w) (hS : mCS S w) (hW : WT V TT st np) (hst : st < 2000) : ∀ c k : Nat, k + c = nn (V 0 1) → ∀ (I : Nat → Nat → Int32) (u4 : Option zV), wP I w V → (∀ j, k ≤ j → j < nn (V 0 1) → mTP I (w + 28 + 20 * j) (tstp (TT j) V L (nn (TT j 0 0)) (nn (TT j 0 6)) (nn (TT j 0 4)) st)) → ∃ I' u', (∀ r, zAt E (d + 1) 154 181 [some (zr (some w)), some (zi x1), some (zi x2), some (zi (Int32.ofNat (nn (V 0 1)))), u'] [] (zwi S I') r → zAt E (d + 1) 154 81 [some (zr (some w)), some (zi x1), some (zi x2), some (zi (Int32.ofNat k)), u4] [] (zwi S I) r) ∧ (∀ j, k ≤ j → j < nn (V 0 1) → mTP I' (w + 28 + 20 * j) (tfs V L st (TT j))) ∧ (∀ a i, ¬ (w + 28 ≤ a ∧ a < w + 148 ∧ (a - (w + 28)) % 20 < 10) → I' a i = I a i) ∧ zfI (w + 28 + 20 * k) (w + 148) I I' := by
  have w0 := hS.1.1.1
  obtain ⟨hV, hs2, hT⟩ := hW
  have hnt := hV.2.1
  have hnt2 := hnt.2
  intro c
  induction c with
  | zero =>
    intro k hk I u4 hP hJ
    obtain rfl : k = nn (V 0 1) := hk
    have e1 : I w 5 = Int32.ofNat (nn (V 0 1)) := hP.un.1.2.1.trans hnt.1
    refine ⟨I, u4, fun r hr => ?_, fun j h1 h2 => by omega, fun _ _ _ => rfl, zfI.rf⟩
    refine zat_in zP_X6_run zk_X6_run_81 ?_
    simp (disch := omega) only [b_X6_run_81, zif, zdr, zkb, mK_wi, mN_wi, mJ_wi, mI_wi, sI_wi, beq_self_eq_true, Bool.true_or, Bool.or_true, Bool.or_false, Bool.and_self, Bool.and_true, Bool.true_and, ↓reduceIte, w0, e1, i_le, Nat.le_refl]
    exact ev_bk hr
  | succ c ih =>
    intro k hk I u4 hP hJ
    have e1 : I w 5 = Int32.ofNat (nn (V 0 1)) := hP.un.1.2.1.trans hnt.1
    obtain ⟨hTI, hSI, hp⟩ := hT k (by omega)
    obtain ⟨I1, u1, a1, p1, c1⟩ := X6_run_s (E := E) (d := d) (x1 := x1) (x2 := x2) (u4 := u4) hB hS hnt2 (show k < nn (V 0 1) by omega) e1 hV hs2 hst hP (hJ k (by omega) (by omega)) (tstp_TI (L := L) (p := nn (TT k 0 4)) hV hst hTI) (SI_stp hSI)
    have f13 : tstp (TT k) V L (nn (TT k 0 0)) (nn (TT k 0 6)) (nn (TT k 0 4)) st 0 13 = TT k 0 13 := tstp_k (by simp [kpt])
    rw [f13] at p1
    obtain ⟨I3, u3, a3, p3, c3, c4⟩ := ih (k + 1) (by omega) I1 (some (zr u1)) (hP.fr (fun a i h1 h2 => c1 a i (by omega))) (fun j h1 h2 => (hJ j (by omega) h2).fr (fun a i h3 h4 => c1 a i (by omega)))
    refine ⟨I3, u3, fun r hr => a1 r ?_, fun j h1 h2 => ?_, fun a i h => (c3 a i h).trans (c1 a i (by omega)), (c1.wide (by omega) (by omega)).tr (c4.wide (by omega) (by omega))⟩
    · refine zat_in zP_X6_run zk_X6_run_175 ?_; simp (disch := omega) only [b_X6_run_175, zif, zdr, zkb, mK_wi, mN_wi, mJ_wi, mI_wi, sI_wi, beq_self_eq_true, Bool.true_or, Bool.or_true, Bool.or_false, Bool.and_self, Bool.and_true, Bool.true_and, ↓reduceIte, ble_up0, i_cl, i_succ, zix_of, zfl_k, zup_k, zup_q]
      exact ev_bk (a3 r hr)
    · by_cases e : j = k
      · subst e
        exact mTP.fr p1 (fun a i h3 h4 => c4 a i (by omega))
      · exact p3 j (by omega) h2
theorem lp_X6_run (hB : E.1 ≤ w) (hS : mCS S w) (hn : n ≤ 500) (hnp : np ≤ 8) : ∀ c k : Nat, k + c = n → ∀ (I : Nat → Nat → Int32) (u3 u4 : Option zV) (V : zT) (TT : Nat → zT), WTn V TT np → mW I w V TT → (∀ p, p < np → mPl I w p L) → ∃ I', zAt E (d + 6) 154 37 [some (zr (some w)), some (zi (Int32.ofNat n)), some (zi (Int32.ofNat k)), u3, u4] [] (zwi S I) (Sum.inl (some (zi (trn L c (Int32.ofNat k) V TT).1)), zwi S (zup (zup I' w 1 0) w 2 (-1))) ∧ mW I' w (trn L c (Int32.ofNat k) V TT).2.1 (trn L c (Int32.ofNat k) V TT).2.2 ∧ ∀ a i, ¬ (a = w ∧ i = 6) → ¬ (w + 28 ≤ a ∧ a < w + 148 ∧ (a - (w + 28)) % 20 < 10) → I' a i = I a i := by
  have hS' := hS
  have w0 := hS.1.1.1
  have hwn := hS.1
  intro c
  induction c with
  | zero =>
    intro k hk I u3 u4 V TT hW hP hL
    obtain rfl : k = n := hk
    refine ⟨I, ?_, hP, fun _ _ _ _ => rfl⟩
    refine zat_in zP_X6_run zk_X6_run_37 ?_
    simp (disch := omega) only [b_X6_run_37, zif, zdr, zkb, mK_wi, mN_wi, mJ_wi, mI_wi, sI_wi, beq_self_eq_true, Bool.true_or, Bool.or_true, Bool.or_false, Bool.and_self, Bool.and_true, Bool.true_and, ↓reduceIte, i_le, Nat.le_refl]
    refine ev_bk ?_
    refine zat_in zP_X6_run zk_X6_run_197 ?_; simp (disch := omega) only [b_X6_run_197, zif, zdr, zkb, mK_wi, mN_wi, mJ_wi, mI_wi, sI_wi, beq_self_eq_true, Bool.true_or, Bool.or_true, Bool.or_false, Bool.and_self, Bool.and_true, Bool.true_and, ↓reduceIte, w0]
    exact ev_ci (sp_X6_done hB w0) ev_r
  | succ c ih =>
    intro k hk I u3 u4 V TT hW hP hL
    have hl : (n ≤ k) = False := eq_false (by omega)
    have hnt := hW.1.2.1
    have hnt2 := hnt.2
    have hg := sp_X6_isOver (E := E) (d := d + 5) hwn hnt hP
    unfold trn
    by_cases g : tgon TT V = 0
    · rw [if_pos g]
      rw [if_pos g] at hg
      refine ⟨I, ?_, hP, fun _ _ _ _ => rfl⟩
      have n1 : ((1 : Int32) = 0) = False := eq_false (by decide)
      refine zat_in zP_X6_run zk_X6_run_37 ?_
      simp (disch := omega) only [b_X6_run_37, zif, zdr, zkb, mK_wi, mN_wi, mJ_wi, mI_wi, sI_wi, beq_self_eq_true, Bool.true_or, Bool.or_true, Bool.or_false, Bool.and_self, Bool.and_true, Bool.true_and, ↓reduceIte, w0, i_le, hl]
      refine ev_ci hg ?_
      simp only [n1, ↓reduceIte]
      refine ev_bk ?_
      refine zat_in zP_X6_run zk_X6_run_197 ?_; simp (disch := omega) only [b_X6_run_197, zif, zdr, zkb, mK_wi, mN_wi, mJ_wi, mI_wi, sI_wi, beq_self_eq_true, Bool.true_or, Bool.or_true, Bool.or_false, Bool.and_self, Bool.and_true, Bool.true_and, ↓reduceIte, w0]
      exact ev_ci (sp_X6_done hB w0) ev_r
    · rw [if_neg g]
      rw [if_neg g] at hg
      obtain ⟨hst, hW2⟩ := WT_go L hW g
      obtain ⟨I1, a1, p1, c1, f1⟩ := lp_X6_run_a (E := E) (d := d) (x1 := Int32.ofNat n) (x2 := Int32.ofNat k) (u4 := u4) hB hS' hW hst hnp (nn (V 0 1)) 0 (by omega) I hP.1 hL (fun j _ hj => hP.2 j hj)
      have hP1 : wP I1 w V := hP.1.fr (fun a i h1 h2 => c1 a i (by omega))
      obtain ⟨I2, u', a2, p2, c2, f2⟩ := lp_X6_run_b (E := E) (d := d + 5) (L := L) (x1 := Int32.ofNat n) (x2 := Int32.ofNat k) hB hS' hW hst (nn (V 0 1)) 0 (by omega) I1 u4 hP1 (fun j h1 h2 => p1 j h1 h2)
      have hP2 : wP I2 w V := hP1.fr (fun a i h1 h2 => c2 a i (by omega))
      have e6 := hP2.un.1.2.2.1
      have hx : mW (zup I2 w 6 (V 0 2 + 1)) w (trV V) (fun k => tfs V L (nn (V 0 2)) (TT k)) := by
        refine ⟨wP_go hP2 (zup_q _ _ _ _) (fun a k h1 h2 h3 => zup_k (by omega)), fun j hj => ?_⟩
        have e0 : trV V 0 1 = V 0 1 := by simp [trV, zup]
        rw [e0] at hj
        exact (p2 j (by omega) hj).fr (fun a i h1 h2 => zup_k (by omega))
      obtain ⟨I3, a3, p3, c3⟩ := ih (k + 1) (by omega) (zup I2 w 6 (V 0 2 + 1)) (some (zi (Int32.ofNat (nn (V 0 1))))) u' (trV V) (fun k => tfs V L (nn (V 0 2)) (TT k)) hW2 hx (fun p hp => (hL p hp).fr (fun a i h1 h2 => by
        rw [zup_k (by omega)]; exact (c2 a i (by omega)).trans (c1 a i (by omega))))
      rw [i_succ]
      refine ⟨I3, ?_, p3, fun a i h1 h2 => ?_⟩
      · refine zat_in zP_X6_run zk_X6_run_37 ?_
        simp (disch := omega) only [b_X6_run_37, zif, zdr, zkb, mK_wi, mN_wi, mJ_wi, mI_wi, sI_wi, beq_self_eq_true, Bool.true_or, Bool.or_true, Bool.or_false, Bool.and_self, Bool.and_true, Bool.true_and, ↓reduceIte, w0, i_le, hl]
        refine ev_ci hg ?_
        simp only [↓reduceIte]
        refine ev_tl zP_X6_run zk_X6_run_51 ?_
        refine a1 _ ?_
        refine zat_in zP_X6_run zk_X6_run_79 ?_
        simp only [b_X6_run_79]
        refine ev_tl zP_X6_run zk_X6_run_81 ?_
        refine a2 _ ?_
        refine zat_in zP_X6_run zk_X6_run_181 ?_; simp (disch := omega) only [b_X6_run_181, zif, zdr, zkb, mK_wi, mN_wi, mJ_wi, mI_wi, sI_wi, beq_self_eq_true, Bool.true_or, Bool.or_true, Bool.or_false, Bool.and_self, Bool.and_true, Bool.true_and, ↓reduceIte, ble_up0, i_cl, i_succ, zix_of, zfl_k, zup_k, zup_q, w0, e6]
        exact ev_bk a3
      · rw [c3 a i h1 h2, zup_k (by omega)]
        exact (c2 a i h2).trans (c1 a i h2)
theorem sp_X6_run (hB : E.1 ≤ w) (h : MG S I w G) (hi : IG G) (x : Int32) : ∃ I', zCl E (d + 6) 154 [zr (some w), zi x] (zwi S I) (Sum.inl (some (zi (oRun G x).1)), zwi S I') ∧ MG S I' w (oRun G x).2 ∧ zfI w (w + 148) I I' := by
  have hcs := h.1
  obtain ⟨hwn, hwk, hps, ⟨m20, hot⟩, ⟨m21, mk21⟩, ⟨m22, mk22, mn22⟩, m39, mk39, mn39⟩ := id hcs
  have w0 := hwn.1.1
  have h0 : mW (zup I w 0 0) w (gV G) (gT G) := h.2.2.1.fr' hi.1.1.2.1 (fun a j h1 h2 h3 => zup_k (by omega))
  have hg := sp_X6_isOver (E := E) (d := d + 5) hwn hi.1.1.2.1 h0
  unfold oRun
  by_cases c1 : tgon (gT G) (gV G) = 0
  · rw [if_pos c1]
    rw [if_pos c1] at hg
    have n1 : ((1 : Int32) = 0) = False := eq_false (by decide)
    refine ⟨?w, ?a, ?b, ?c⟩
    case a =>
      refine zcl_in' zP_X6_run ?_; rw [zn_2_5]
      refine zat_in zP_X6_run zk_X6_run_0 ?_
      simp (disch := omega) only [b_X6_run_0, zif, zdr, zkb, mK_wi, mN_wi, mJ_wi, mI_wi, sI_wi, beq_self_eq_true, Bool.true_or, Bool.or_true, Bool.or_false, Bool.and_self, Bool.and_true, Bool.true_and, ↓reduceIte, ble_up0, i_cl, i_succ, zix_of, zfl_k, zup_k, zup_q, w0]
      refine ev_ci hg ?_
      simp (disch := omega) only [zif, zdr, zkb, mK_wi, mN_wi, mJ_wi, mI_wi, sI_wi, beq_self_eq_true, Bool.true_or, Bool.or_true, Bool.or_false, Bool.and_self, Bool.and_true, Bool.true_and, ↓reduceIte, ble_up0, i_cl, i_succ, zix_of, zfl_k, zup_k, zup_q, w0, n1]
      refine ev_ci (sp_X6_refused hB w0) ?_
      exact ev_r
    case b => exact h.tr hi (by simp (disch := omega) only [zfl_k, zfl_q, zup_k, zup_q]) (by simp (disch := omega) only [zfl_k, zfl_q, zup_k, zup_q]) (fun a k h1 h2 h3 => by simp (disch := omega) only [zfl_k, zfl_q, zup_k, zup_q])
    case c => repeat' (first | exact zfI.rf | refine zfI.put ?_ (by omega) (by omega))
  · rw [if_neg c1]
    rw [if_neg c1] at hg
    have main : ∀ r, zAt E (d + 6) 154 18 [some (zr (some w)), some (zi x), none, none, none] [] (zwi S (zup I w 0 0)) r → zCl E (d + 6) 154 [zr (some w), zi x] (zwi S I) r := by
      intro r hr
      refine zcl_in' zP_X6_run ?_; rw [zn_2_5]
      refine zat_in zP_X6_run zk_X6_run_0 ?_
      simp (disch := omega) only [b_X6_run_0, zif, zdr, zkb, mK_wi, mN_wi, mJ_wi, mI_wi, sI_wi, beq_self_eq_true, Bool.true_or, Bool.or_true, Bool.or_false, Bool.and_self, Bool.and_true, Bool.true_and, ↓reduceIte, ble_up0, i_cl, i_succ, zix_of, zfl_k, zup_k, zup_q, w0]
      refine ev_ci hg ?_
      simp (disch := omega) only [zif, zdr, zkb, mK_wi, mN_wi, mJ_wi, mI_wi, sI_wi, beq_self_eq_true, Bool.true_or, Bool.or_true, Bool.or_false, Bool.and_self, Bool.and_true, Bool.true_and, ↓reduceIte, ble_up0, i_cl, i_succ, zix_of, zfl_k, zup_k, zup_q, w0]
      exact ev_bk hr
    by_cases c2 : tin x 1 500 = 0
    · rw [if_pos c2]
      refine ⟨?w2, ?a2, ?b2, ?c2⟩
      case a2 =>
        refine main _ ?_
        refine zat_in zP_X6_run zk_X6_run_18 ?_
        simp (disch := omega) only [b_X6_run_18, zif, zdr, zkb, mK_wi, mN_wi, mJ_wi, mI_wi, sI_wi, beq_self_eq_true, Bool.true_or, Bool.or_true, Bool.or_false, Bool.and_self, Bool.and_true, Bool.true_and, ↓reduceIte, ble_up0, i_cl, i_succ, zix_of, zfl_k, zup_k, zup_q, w0]
        refine ev_ci (sp_X6_in _ _ _) ?_
        simp (disch := omega) only [zif, zdr, zkb, mK_wi, mN_wi, mJ_wi, mI_wi, sI_wi, beq_self_eq_true, Bool.true_or, Bool.or_true, Bool.or_false, Bool.and_self, Bool.and_true, Bool.true_and, ↓reduceIte, ble_up0, i_cl, i_succ, zix_of, zfl_k, zup_k, zup_q, w0, eq_true c2]
        refine ev_ci (sp_X6_refused hB w0) ?_
        exact ev_r
      case b2 => exact h.tr hi (by simp (disch := omega) only [zfl_k, zfl_q, zup_k, zup_q]) (by simp (disch := omega) only [zfl_k, zfl_q, zup_k, zup_q]) (fun a k h1 h2 h3 => by simp (disch := omega) only [zfl_k, zfl_q, zup_k, zup_q])
      case c2 => repeat' (first | exact zfI.rf | refine zfI.put ?_ (by omega) (by omega))
    · rw [if_neg c2]
      obtain ⟨c3, c4⟩ := tin_1 c2
      have hn : x = Int32.ofNat (nn x) := i_toN (Int32.le_trans (by decide) c3)
      have hn5 : nn x ≤ 500 := by
        rw [hn, show (500 : Int32) = Int32.ofNat 500 from rfl, i_le (by have := Int32.toInt_lt x; have := i_nnI (x := x) (Int32.le_trans (by decide) c3); omega) (by omega)] at c4
        exact c4
      obtain ⟨h1, ⟨⟨s1, s2, s3, s4⟩, s6, s7, s8⟩, h3, ⟨h4, h4'⟩, h5, h6⟩ := h
      obtain ⟨I2, a2, p2, f2⟩ := lp_X6_run (E := E) (d := d) (L := gL G) (np := gp G) hB hcs hn5 hi.2.2.1 (nn x) 0 (by omega) (zup I w 0 0) none none (gV G) (gT G) hi.1 h0 (fun p hp => (h5 p hp).fr (fun a k h1 h2 => zup_k (by omega)))
      rw [← hn] at a2
      have e : ∀ a i, ¬ (a = w ∧ (i ≤ 2 ∨ i = 6)) → ¬ (w + 28 ≤ a ∧ a < w + 148 ∧ (a - (w + 28)) % 20 < 10) → zup (zup I2 w 1 0) w 2 (-1) a i = I a i := by
        intro a i h1 h2
        rw [zup_k (by omega), zup_k (by omega), f2 a i (by omega) h2, zup_k (by omega)]
      refine ⟨zup (zup I2 w 1 0) w 2 (-1), ?_, ?_, ?_⟩
      · refine main _ ?_
        refine zat_in zP_X6_run zk_X6_run_18 ?_
        simp (disch := omega) only [b_X6_run_18, zif, zdr, zkb, mK_wi, mN_wi, mJ_wi, mI_wi, sI_wi, beq_self_eq_true, Bool.true_or, Bool.or_true, Bool.or_false, Bool.and_self, Bool.and_true, Bool.true_and, ↓reduceIte, ble_up0, i_cl, i_succ, zix_of, zfl_k, zup_k, zup_q, w0]
        refine ev_ci (sp_X6_in _ _ _) ?_
        simp (disch := omega) only [zif, zdr, zkb, mK_wi, mN_wi, mJ_wi, mI_wi, sI_wi, beq_self_eq_true, Bool.true_or, Bool.or_true, Bool.or_false, Bool.and_self, Bool.and_true, Bool.true_and, ↓reduceIte, ble_up0, i_cl, i_succ, zix_of, zfl_k, zup_k, zup_q, w0, eq_false c2]
        refine ev_bk ?_
        refine zat_in zP_X6_run zk_X6_run_35 ?_
        simp only [b_X6_run_35]
        refine ev_tl zP_X6_run zk_X6_run_37 ?_
        exact a2
      · have hm : mW (zup (zup I2 w 1 0) w 2 (-1)) w (trn (gL G) (nn x) 0 (gV G) (gT G)).2.1 (trn (gL G) (nn x) 0 (gV G) (gT G)).2.2 := mW.fr' p2 (trn_WT _ _ _ _ hi.1).1.2.1 (fun a j h1 h2 h3 => by rw [zup_k (by omega), zup_k (by omega)])
        exact ⟨h1, ⟨⟨(e _ _ (by omega) (by omega)).trans s1, by simp (disch := omega) only [zfl_k, zfl_q, zup_k, zup_q]; rfl, by simp (disch := omega) only [zfl_k, zfl_q, zup_k, zup_q]; rfl, (e _ _ (by omega) (by omega)).trans s4⟩, (e _ _ (by omega) (by omega)).trans s6, (e _ _ (by omega) (by omega)).trans s7, fun j hj => (e _ _ (by omega) (by omega)).trans (s8 j hj)⟩, hm, ⟨fun q => (h4 q).fr' hi.2.1.1.2.1 (fun a j h1 h2 h3 => e _ _ (by omega) (by omega)), fun q => (e _ _ (by omega) (by omega)).trans (h4' q)⟩, fun p hp => (h5 p hp).fr (fun a k h1 h2 => e _ _ (by omega) (by omega)), fun i hi j hj => (e _ _ (by omega) (by omega)).trans (h6 i hi j hj)⟩
      · exact fun a k q => e a k (by omega) (by omega)
end
