/-! ===== what else holds all through ===== -/
set_option maxRecDepth 100000
theorem IR_e {T U : zT} (h : IR T) (e : ∀ j, U 4 j = T 4 j ∧ U 5 j = T 5 j) : IR U := fun j hj => by
  rw [(e j).1, (e j).2]
  exact h j hj
theorem IR_o {T : zT} {i j : Nat} {v : Int32} (h : IR T) (h4 : i ≠ 4) (h5 : i ≠ 5) : IR (zup T i j v) := IR_e h (fun k => ⟨zup_k (by omega), zup_k (by omega)⟩)
theorem IR_z {T : zT} {i j : Nat} {v : Int32} (h : IR T) (hv : ib v) : IR (zup T i j v) := fun k hk => by
  constructor
  · by_cases e : 4 = i ∧ k = j
    · rw [zup_e e]; exact hv
    · rw [zup_k e]; exact (h k hk).1
  · by_cases e : 5 = i ∧ k = j
    · rw [zup_e e]; exact hv
    · rw [zup_k e]; exact (h k hk).2
theorem ib_n {s : Nat} (h : s ≤ 2000) : ib (Int32.ofNat s) := by
  unfold ib
  rw [i_int (by omega)]
  omega
theorem IR_go {V T : zT} {nd lg s : Nat} (h : IR T) (hs : s < 2000) : IR (tgo T V nd lg s) := by
  have h1 : IR (tg3 T V nd lg s) := by
    unfold tg3
    refine IR_e (T := tg2 (tg1 T lg (Int32.ofNat s))) ?_ (fun j => ⟨tlose_i (by omega) (by omega), tlose_i (by omega) (by omega)⟩)
    unfold tg2 tg1
    refine IR_o (IR_o ?_ (by omega) (by omega)) (by omega) (by omega)
    split
    · exact IR_z h (ib_n (by omega))
    · exact h
  unfold tgo
  generalize tg3 T V nd lg s = U at *
  split
  · exact IR_o h1 (by omega) (by omega)
  · have h2 : IR (tg4 U V nd lg) := IR_o h1 (by omega) (by omega)
    split
    · exact h2
    · generalize tg4 U V nd lg = X at *
      have h3 : IR (tlv (Int32.ofNat (lg + 1)) nd (tcom1 X lg (Int32.ofNat s + 1))) := by
        refine IR_e (T := tcom1 X lg (Int32.ofNat s + 1)) ?_ (fun j => ⟨tlv_i (by omega) (by omega), tlv_i (by omega) (by omega)⟩)
        unfold tcom1
        refine IR_z (IR_o (IR_o h2 (by omega) (by omega)) (by omega) (by omega)) ?_
        rw [i_succ]
        exact ib_n (by omega)
      unfold tcome
      split
      · exact IR_o h3 (by omega) (by omega)
      · exact h3
theorem IR_rest {V T : zT} {nd s : Nat} {a : Int32} (h : IR T) : IR (trest T V nd s a) := by
  unfold trest trB
  refine IR_o (IR_o ?_ (by omega) (by omega)) (by omega) (by omega)
  refine IR_e (T := trA T nd a) ?_ (fun j => ⟨tgain_i (by omega), tgain_i (by omega)⟩)
  unfold trA
  split
  · exact IR_e (T := zup T 0 8 (T 0 8 - 1)) (IR_o h (by omega) (by omega)) (fun j => ⟨tgain_i (by omega), tgain_i (by omega)⟩)
  · split
    · cases tweak T nd with
      | none => exact h
      | some b =>
        show IR (zup (zup T 2 b 2) 3 b (T 0 6))
        exact IR_o (IR_o h (by omega) (by omega)) (by omega) (by omega)
    · exact h
theorem IR_stp {V T : zT} {L : zPL} {nd lg p s : Nat} (h : IR T) (hs : s < 2000) : IR (tstp T V L nd lg p s) := by
  have h0 : IR (tst0 T s) := by
    unfold tst0
    split
    · exact IR_z (IR_o h (by omega) (by omega)) (ib_n (by omega))
    · exact h
  unfold tstp
  split
  · split
    · exact IR_go (IR_o h0 (by omega) (by omega)) hs
    · exact IR_rest (IR_o h0 (by omega) (by omega))
  · exact h0
theorem IR_fs {V T : zT} {L : zPL} {s : Nat} (h : IR T) (hs : s < 2000) : IR (tfs V L s T) := by
  have h1 := IR_stp (V := V) (L := L) (nd := nn (T 0 0)) (lg := nn (T 0 6)) (p := nn (T 0 4)) h hs
  unfold tfs tsgn
  split
  · exact IR_o (IR_o h1 (by omega) (by omega)) (by omega) (by omega)
  · exact h1
theorem trn_0 {L : zPL} : ∀ c n V TT, (trn L c n V TT).2.1 0 0 = V 0 0 ∧ (trn L c n V TT).2.1 0 1 = V 0 1
  | 0, _, _, _ => ⟨rfl, rfl⟩
  | c + 1, n, V, TT => by
    unfold trn
    split
    · exact ⟨rfl, rfl⟩
    · obtain ⟨h1, h2⟩ := trn_0 (L := L) c (n + 1) (trV V) (fun k => tfs V L (nn (V 0 2)) (TT k))
      exact ⟨h1.trans (by simp [trV, zup]), h2.trans (by simp [trV, zup])⟩
theorem trn_P {L : zPL} {np : Nat} {P : zT → Prop} (hP : ∀ V T s, P T → s < 2000 → P (tfs V L s T)) : ∀ c n V TT, WTn V TT np → (∀ j, j < nn (V 0 1) → P (TT j)) → ∀ j, j < nn (V 0 1) → P ((trn L c n V TT).2.2 j)
  | 0, _, _, _, _, h, j, hj => h j hj
  | c + 1, n, V, TT, hW, h, j, hj => by
    unfold trn
    by_cases g : tgon TT V = 0
    · rw [if_pos g]
      exact h j hj
    · rw [if_neg g]
      obtain ⟨hst, hW2⟩ := WT_go L hW g
      have e : trV V 0 1 = V 0 1 := by simp [trV, zup]
      exact trn_P hP c (n + 1) (trV V) _ hW2 (fun k hk => hP _ _ _ (h k (by rw [e] at hk; exact hk)) hst) j (by rw [e]; exact hj)
section
variable {G : zGl} {why : Int32}
theorem IE.tr (h : IE G) : IE (gtr G why (-1)) := ⟨h.1, h.2.1, Or.inr (show zup (zup (gU G) 0 1 why) 0 2 (-1) 0 2 = -1 from zup_q _ _ _ _)⟩
theorem IL.tr {wh : Int32} (h : IL G) : IL (gtr G why wh) := h
theorem IE.run (hi : IG G) (h : IE G) (n : Int32) : IE (oRun G n).2 := by
  unfold oRun
  split
  · exact h.tr
  · split
    · exact h.tr
    · refine IE.tr (G := sN G _ _) ⟨⟨?_, ?_⟩, h.2.1, h.2.2⟩
      · intro j hj
        have e := (trn_0 (L := gL G) (nn n) 0 (gV G) (gT G)).2
        have hj' : j < nn (gV G 0 1) := by
          rw [← e]
          exact hj
        exact trn_P (P := fun T => 0 < nn (T 0 0)) (fun V T s hT hs => by rw [tfs_0 (by omega)]; exact hT) (nn n) 0 (gV G) (gT G) hi.1 h.1.1 j hj'
      · intro hj
        have e := trn_0 (L := gL G) (nn n) 0 (gV G) (gT G)
        have hj' : 0 < nn (gV G 0 1) := by
          rw [← e.2]
          exact hj
        have := h.1.2 hj'
        rw [← e.1] at this
        exact this
theorem IL.run (hi : IG G) (h : IL G) (n : Int32) : IL (oRun G n).2 := by
  unfold oRun
  split
  · exact h
  · split
    · exact h
    · refine ⟨fun j hj => ?_, h.2.1, h.2.2⟩
      have e := (trn_0 (L := gL G) (nn n) 0 (gV G) (gT G)).2
      have hj' : j < nn (gV G 0 1) := by
        rw [← e]
        exact hj
      exact trn_P (P := IR) (fun V T s hT hs => IR_fs hT hs) (nn n) 0 (gV G) (gT G) hi.1 h.1 j hj'
theorem IE.keep (h : IE G) : IE (oKeep G).2 := ⟨h.1, h.1, h.2.2⟩
theorem IL.keep (h : IL G) : IL (oKeep G).2 := ⟨h.1, h.1, h.2.2⟩
theorem IE.back (h : IE G) : IE (oBack G).2 := by
  unfold oBack
  split
  · exact IE.tr (G := sN G (kV G) (kT G)) ⟨h.2.1, h.2.1, h.2.2⟩
  · exact h.tr
theorem IL.back (h : IL G) : IL (oBack G).2 := by
  unfold oBack
  split
  · exact ⟨h.2.1, h.2.1, h.2.2⟩
  · exact h
theorem IE.each (h : IE G) (x : Int32) : IE (oEach G x).2 := by
  unfold oEach
  split
  · split
    · exact h.tr
    · refine IE.tr (G := sN G _ _) ⟨?_, h.2.1, h.2.2⟩
      show (∀ j, j < nn (zup (gV G) 0 3 x 0 1) → 0 < nn (gT G j 0 0)) ∧ (0 < nn (zup (gV G) 0 3 x 0 1) → 0 < nn (zup (gV G) 0 3 x 0 0))
      rw [zup_k (by omega), zup_k (by omega)]
      exact h.1
  · exact h.tr
theorem IL.each (h : IL G) (x : Int32) : IL (oEach G x).2 := by
  unfold oEach
  split
  · split
    · exact h
    · refine ⟨?_, h.2.1, h.2.2⟩
      show ∀ k, k < nn (zup (gV G) 0 3 x 0 1) → IR (gT G k)
      rw [zup_k (by omega)]
      exact h.1
  · exact h
theorem IE.replay (h : IE G) (t p k : Int32) : IE (oReplay G t p k).2 := by
  unfold oReplay
  repeat' split
  all_goals exact h.tr
theorem IL.replay (h : IL G) (t p k : Int32) : IL (oReplay G t p k).2 := by
  unfold oReplay
  repeat' split
  all_goals exact h
theorem IE.leg (h : IE G) (l k : Int32) : IE (oLeg G l k).2 := by
  unfold oLeg
  split
  · split
    · exact h.tr
    · split
      · exact h.tr
      · split
        · exact h.tr
        · next c3 =>
          refine IE.tr (G := sN G _ _) ⟨?_, h.2.1, h.2.2⟩
          have e1 : vLeg (gV G) l k 0 1 = gV G 0 1 := by simp [vLeg, zup]
          have e0 : vLeg (gV G) l k 0 0 = Int32.ofNat (nn (gV G 0 0) + 1) := zup_q _ _ _ _
          show (∀ j, j < nn (vLeg (gV G) l k 0 1) → 0 < nn (gT G j 0 0)) ∧ (0 < nn (vLeg (gV G) l k 0 1) → 0 < nn (vLeg (gV G) l k 0 0))
          rw [e1, e0, nn_of (by omega)]
          exact ⟨h.1.1, fun _ => by omega⟩
  · exact h.tr
theorem IL.leg (h : IL G) (l k : Int32) : IL (oLeg G l k).2 := by
  unfold oLeg
  split
  · split
    · exact h
    · split
      · exact h
      · split
        · exact h
        · refine ⟨?_, h.2.1, h.2.2⟩
          have e1 : vLeg (gV G) l k 0 1 = gV G 0 1 := by simp [vLeg, zup]
          show ∀ j, j < nn (vLeg (gV G) l k 0 1) → IR (gT G j)
          rw [e1]
          exact h.1
  · exact h
theorem IE.cold (h : IE G) (a b c : Int32) : IE (oCold G a b c).2 := by
  unfold oCold
  split
  · exact h.tr
  · refine IE.tr (G := sN G _ _) ⟨?_, h.2.1, h.2.2⟩
    show (∀ j, j < nn (vCold (gV G) (nn a) (nn b + 1) c 0 1) → 0 < nn (gT G j 0 0)) ∧ (0 < nn (vCold (gV G) (nn a) (nn b + 1) c 0 1) → 0 < nn (vCold (gV G) (nn a) (nn b + 1) c 0 0))
    rw [vCold_i (by omega), vCold_i (by omega)]
    exact h.1
theorem IL.cold (h : IL G) (a b c : Int32) : IL (oCold G a b c).2 := by
  unfold oCold
  split
  · exact h
  · refine ⟨?_, h.2.1, h.2.2⟩
    show ∀ j, j < nn (vCold (gV G) (nn a) (nn b + 1) c 0 1) → IR (gT G j)
    rw [vCold_i (by omega)]
    exact h.1
theorem IE.up {k : Nat} {T : zT} (h : IE G) (hT : k < nn (gV G 0 1) → 0 < nn (T 0 0)) : IE (sN G (gV G) (upT (gT G) k T)) := by
  refine ⟨⟨fun j hj => ?_, h.1.2⟩, h.2.1, h.2.2⟩
  show 0 < nn (upT (gT G) k T j 0 0)
  by_cases e : j = k
  · subst e
    rw [upT_q]
    exact hT hj
  · rw [upT_k e]
    exact h.1.1 j hj
theorem IL.up {k : Nat} {T : zT} (h : IL G) (hT : k < nn (gV G 0 1) → IR T) : IL (sN G (gV G) (upT (gT G) k T)) := by
  refine ⟨fun j hj => ?_, h.2.1, h.2.2⟩
  show IR (upT (gT G) k T j)
  by_cases e : j = k
  · subst e
    rw [upT_q]
    exact hT hj
  · rw [upT_k e]
    exact h.1 j hj
theorem IE.follow (h : IE G) (t p : Int32) : IE (oFollow G t p).2 := by
  unfold oFollow
  split
  · exact h.tr
  · split
    · exact h.tr
    · split
      · exact h.tr
      · exact (h.up (fun hk => by
          rw [zup_k (by omega)]
          exact h.1.1 _ hk)).tr
theorem IL.follow (h : IL G) (t p : Int32) : IL (oFollow G t p).2 := by
  unfold oFollow
  split
  · exact h
  · split
    · exact h
    · split
      · exact h
      · exact (h.up (fun hk => IR_o (h.1 _ hk) (by omega) (by omega))).tr
theorem IE.gap (h : IE G) (t a b : Int32) : IE (oGap G t a b).2 := by
  unfold oGap
  split
  · exact h.tr
  · split
    · exact h.tr
    · split
      · exact h.tr
      · split
        · exact h.tr
        · exact (h.up (fun hk => by
            rw [tGap_0 (by omega)]
            exact h.1.1 _ hk)).tr
theorem IL.gap (h : IL G) (t a b : Int32) : IL (oGap G t a b).2 := by
  unfold oGap
  split
  · exact h
  · split
    · exact h
    · split
      · exact h
      · split
        · exact h
        · exact (h.up (fun hk => IR_e (h.1 _ hk) (fun j => ⟨tGap_i (by omega) (by omega) (by omega), tGap_i (by omega) (by omega) (by omega)⟩))).tr
theorem IE.feed (h : IE G) (a b c d e : Int32) : IE (oFeed G a b c d e).2 := by
  unfold oFeed
  split
  · refine ⟨h.1, h.2.1, ?_⟩
    rcases h.2.2 with q | q
    · exact Or.inl ((show uFeed (gU G) a b c d e 0 1 = gU G 0 1 by simp [uFeed]).trans q)
    · exact Or.inr ((show uFeed (gU G) a b c d e 0 2 = gU G 0 2 by simp [uFeed]).trans q)
  · exact h
theorem IL.feed (h : IL G) (a b c d e : Int32) : IL (oFeed G a b c d e).2 := by
  unfold oFeed
  split
  · exact h
  · exact h
end
