/-! ===== run: what it makes; the outer loop (x) ===== -/
set_option maxRecDepth 100000
def trV (V : zT) : zT := zup V 0 2 (V 0 2 + 1)
def trn (L : zPL) : Nat → Int32 → zT → (Nat → zT) → Int32 × zT × (Nat → zT)
  | 0, n, V, TT => (n, V, TT)
  | c + 1, n, V, TT => if tgon TT V = 0 then (n, V, TT) else trn L c (n + 1) (trV V) (fun k => tfs V L (nn (V 0 2)) (TT k))
theorem nway_V {V V' : zT} {f : Nat} (h : ∀ j, V' 1 j = V 1 j) : ∀ k, nway V' f k = nway V f k
  | 0 => rfl
  | k + 1 => by
    show nway V' f k + nn (V' 1 k) = nway V f k + nn (V 1 k)
    rw [nway_V h k, h k]
theorem TI_V {V V' T : zT} {st : Nat} (h0 : V' 0 0 = V 0 0) (h1 : ∀ j, V' 1 j = V 1 j) (h : TI V st T) : TI V' st T := by
  unfold TI tB at *
  rw [h0]
  simp only [nway_V h1]
  exact h
theorem WT_go {V : zT} {TT : Nat → zT} {np : Nat} (L : zPL) (h : WTn V TT np) (hg : ¬ tgon TT V = 0) : nn (V 0 2) < 2000 ∧ WTn (trV V) (fun k => tfs V L (nn (V 0 2)) (TT k)) np := by
  obtain ⟨hV, h2, hT⟩ := h
  have hs := hV.2.2.1
  have hlt : nn (V 0 2) < 2000 := by
    have := hs.2
    unfold tgon at hg
    by_cases c : tlive TT (nn (V 0 1)) = 0
    · rw [if_pos c] at hg
      exact absurd rfl hg
    · rw [if_neg c] at hg
      by_cases c2 : 2000 ≤ V 0 2
      · rw [if_pos c2] at hg
        exact absurd rfl hg
      · rw [hs.1, show (2000 : Int32) = Int32.ofNat 2000 from rfl, i_le (by omega) (by omega)] at c2
        omega
  have e2 : trV V 0 2 = Int32.ofNat (nn (V 0 2) + 1) := by
    show zup V 0 2 (V 0 2 + 1) 0 2 = _
    rw [zup_q, ← i_succ, ← h2]
  have e2n : nn (trV V 0 2) = nn (V 0 2) + 1 := by rw [e2, nn_of (by omega)]
  have e0 : ∀ j, j ≠ 2 → trV V 0 j = V 0 j := fun j hj => by simp [trV, zup, hj]
  have e1 : ∀ i j, i ≠ 0 → trV V i j = V i j := fun i j hi => by simp [trV, zup, hi]
  obtain ⟨v0, v1, v2, v3, v4, v5, v6⟩ := hV
  refine ⟨hlt, ⟨?_, ?_, ?_, ?_, ?_, ?_, ?_⟩, ?_, ?_⟩
  · rw [e0 0 (by omega)]; exact v0
  · rw [e0 1 (by omega)]; exact v1
  · rw [e2]; exact sm_of (by omega) (by omega)
  · rw [e0 3 (by omega)]; exact v3
  · intro j hj
    rw [e1 1 j (by omega)]
    exact v4 j hj
  · intro j hj
    rw [e0 0 (by omega)] at hj
    rw [e1 2 j (by omega)]
    exact v5 j hj
  · intro j hj
    rw [e1 3 j (by omega)]
    exact v6 j hj
  · rw [e2n]; exact e2
  · intro j hj
    rw [e0 1 (by omega)] at hj
    obtain ⟨t1, t2, t3⟩ := hT j hj
    rw [e2n]
    exact ⟨TI_V (e0 0 (by omega)) (fun j => e1 1 j (by omega)) (TI_fs ⟨v0, v1, v2, v3, v4, v5, v6⟩ hlt t1), SI_fs ⟨v0, v1, v2, v3, v4, v5, v6⟩ hlt t1 t2, by
      show nn (tfs V L (nn (V 0 2)) (TT j) 0 4) < np
      rw [tfs_0 (by omega)]
      exact t3⟩
theorem trn_WT {L : zPL} {np : Nat} : ∀ c n V TT, WTn V TT np → WTn (trn L c n V TT).2.1 (trn L c n V TT).2.2 np
  | 0, _, _, _, h => h
  | c + 1, n, V, TT, h => by
    unfold trn
    by_cases g : tgon TT V = 0
    · rw [if_pos g]
      exact h
    · rw [if_neg g]
      exact trn_WT c _ _ _ (WT_go L h g).2
section
variable {E : zE} {d B w n np : Nat} {S : zM} {I J : Nat → Nat → Int32} {V : zT} {TT : Nat → zT} {L : zPL}
theorem wP_go (h : wP I w V) (hJ : J w 6 = V 0 2 + 1) (hf : ∀ a k, w ≤ a → a ≤ w + 3 → ¬ (a = w ∧ k = 6) → J a k = I a k) : wP J w (trV V) := by
  obtain ⟨⟨v0, v1, v2, v3⟩, r1, r2, r3⟩ := h.un
  have e1 : ∀ i j, i ≠ 0 → trV V i j = V i j := fun i j hi => by simp [trV, zup, hi]
  refine wP.mk ?_ ?_ ?_ ?_ (fun j hj => ?_) (fun j hj => ?_) (fun j hj => ?_)
  · rw [hf _ _ (by omega) (by omega) (by omega), v0]; simp [trV, zup]
  · rw [hf _ _ (by omega) (by omega) (by omega), v1]; simp [trV, zup]
  · rw [hJ]; simp [trV, zup]
  · rw [hf _ _ (by omega) (by omega) (by omega), v3]; simp [trV, zup]
  · rw [hf _ _ (by omega) (by omega) (by omega), r1 j hj, e1 1 j (by omega)]
  · rw [hf _ _ (by omega) (by omega) (by omega), r2 j hj, e1 2 j (by omega)]
  · rw [hf _ _ (by omega) (by omega) (by omega), r3 j hj, e1 3 j (by omega)]
theorem lp_X0_run (hB : E.1 ≤ B) (hS : xCS S B) (hn : n ≤ 500) : ∀ c k : Nat, k + c = n → ∀ (I : Nat → Nat → Int32) (u3 u4 : Option zV) (V : zT) (TT : Nat → zT), WTn V TT np → xW I (B + 5) V TT → xPT S I (B + 466) (B + 314) np L → ∃ I', zAt E (d + 8) 50 41 [some (zr (some B)), some (zi (Int32.ofNat n)), some (zi (Int32.ofNat k)), u3, u4] [] (zwi S I) (Sum.inl (some (zi (trn L c (Int32.ofNat k) V TT).1)), zwi S I') ∧ xW I' (B + 5) (trn L c (Int32.ofNat k) V TT).2.1 (trn L c (Int32.ofNat k) V TT).2.2 ∧ zfI (B + 5) (B + 148) I I' := by
  have hS' := hS
  obtain ⟨b0, ⟨b3, b4, b5⟩, hw, -, -, ⟨b7, bk7, bn7⟩, -⟩ := hS
  have hw' := hw
  obtain ⟨⟨w0, -⟩, ⟨w1, w2, w3⟩, w4⟩ := hw
  intro c
  induction c with
  | zero =>
    intro k hk I u3 u4 V TT hW hP hL
    obtain rfl : k = n := hk
    refine ⟨I, ?_, hP, zfI.rf⟩
    refine zat_in zP_X0_run zk_X0_run_41 ?_
    simp (disch := omega) only [b_X0_run_41, zif, zdr, zkb, mK_wi, mN_wi, mJ_wi, mI_wi, sI_wi, beq_self_eq_true, Bool.true_or, Bool.or_true, Bool.or_false, Bool.and_self, Bool.and_true, Bool.true_and, ↓reduceIte, i_le, Nat.le_refl]
    refine ev_bk ?_
    refine zat_in zP_X0_run zk_X0_run_147 ?_; simp (disch := omega) only [b_X0_run_147, zif, zdr, zkb, mK_wi, mN_wi, mJ_wi, mI_wi, sI_wi, beq_self_eq_true, Bool.true_or, Bool.or_true, Bool.or_false, Bool.and_self, Bool.and_true, Bool.true_and, ↓reduceIte]
    exact ev_r
  | succ c ih =>
    intro k hk I u3 u4 V TT hW hP hL
    have hl : (n ≤ k) = False := eq_false (by omega)
    have hnt := hW.1.2.1
    have hg := sp_X3_goesOn (E := E) (d := d + 7) hw' hnt hP
    unfold trn
    by_cases g : tgon TT V = 0
    · rw [if_pos g]
      refine ⟨I, ?_, hP, zfI.rf⟩
      refine zat_in zP_X0_run zk_X0_run_41 ?_
      simp (disch := omega) only [b_X0_run_41, zif, zdr, zkb, mK_wi, mN_wi, mJ_wi, mI_wi, sI_wi, beq_self_eq_true, Bool.true_or, Bool.or_true, Bool.or_false, Bool.and_self, Bool.and_true, Bool.true_and, ↓reduceIte, b0, b3, w0, i_le, hl]
      refine ev_ci hg ?_
      simp only [eq_true g, ↓reduceIte]
      refine ev_bk ?_
      refine zat_in zP_X0_run zk_X0_run_147 ?_; simp (disch := omega) only [b_X0_run_147, zif, zdr, zkb, mK_wi, mN_wi, mJ_wi, mI_wi, sI_wi, beq_self_eq_true, Bool.true_or, Bool.or_true, Bool.or_false, Bool.and_self, Bool.and_true, Bool.true_and, ↓reduceIte]
      exact ev_r
    · rw [if_neg g]
      obtain ⟨hst, hW2⟩ := WT_go L hW g
      obtain ⟨I1, u', a1, p1, c1⟩ := lp_X0_run_a (E := E) (d := d) (x1 := Int32.ofNat n) (x2 := Int32.ofNat k) hB hS' hW hst (nn (V 0 1)) 0 (by omega) I u4 hP.1 hL (fun j _ hj => hP.2 j hj)
      have hP1 : wP I1 (B + 5) V := hP.1.fr (fun a i h1 h2 => c1 a i (by omega))
      have e6 := hP1.un.1.2.2.1
      have hx : xW (zup I1 (B + 5) 6 (V 0 2 + 1)) (B + 5) (trV V) (fun k => tfs V L (nn (V 0 2)) (TT k)) := by
        refine ⟨wP_go hP1 (zup_q _ _ _ _) (fun a k h1 h2 h3 => zup_k (by omega)), fun j hj => ?_⟩
        have e0 : trV V 0 1 = V 0 1 := by simp [trV, zup]
        rw [e0] at hj
        refine (p1 j (by omega) hj).fr ?_ (fun a i h1 h2 => zup_k (by omega))
        rw [tfs_0 (by omega)]
        exact (hW.2.2 j hj).1.1.1
      obtain ⟨I2, a2, p2, c2⟩ := ih (k + 1) (by omega) (zup I1 (B + 5) 6 (V 0 2 + 1)) (some (zi (Int32.ofNat (nn (V 0 1))))) u' (trV V) (fun k => tfs V L (nn (V 0 2)) (TT k)) hW2 hx (hL.fr (fun a i h => by rw [zup_k (by omega)]; exact c1 a i (by omega)))
      rw [i_succ]
      refine ⟨I2, ?_, p2, (zfI.put (c1.wide (by omega) (by omega)) (by omega) (by omega)).tr c2⟩
      refine zat_in zP_X0_run zk_X0_run_41 ?_
      simp (disch := omega) only [b_X0_run_41, zif, zdr, zkb, mK_wi, mN_wi, mJ_wi, mI_wi, sI_wi, beq_self_eq_true, Bool.true_or, Bool.or_true, Bool.or_false, Bool.and_self, Bool.and_true, Bool.true_and, ↓reduceIte, b0, b3, w0, i_le, hl]
      refine ev_ci hg ?_
      simp only [eq_false g, ↓reduceIte]
      refine ev_tl zP_X0_run zk_X0_run_58 ?_
      refine a1 _ ?_
      refine zat_in zP_X0_run zk_X0_run_128 ?_; simp (disch := omega) only [b_X0_run_128, zif, zdr, zkb, mK_wi, mN_wi, mJ_wi, mI_wi, sI_wi, beq_self_eq_true, Bool.true_or, Bool.or_true, Bool.or_false, Bool.and_self, Bool.and_true, Bool.true_and, ↓reduceIte, ble_up0, i_cl, i_succ, zix_of, zfl_k, zup_k, zup_q, b0, b3, w0, e6]
      exact ev_bk a2
end
