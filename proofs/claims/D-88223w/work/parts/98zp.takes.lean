/-! ===== a plan more; the tape is taken for a text (class) ===== -/
set_option maxRecDepth 100000
/-- nothing is taped; trouble, where, fault -/
def uTk (U : zT) (a b c : Int32) : zT := zup (zup (zup (zup U 0 0 0) 0 1 a) 0 2 b) 0 3 c
def gX (G : zGl) (n : Int32) : zTx := (gU G 1, nn n)
def pD0 : zPL := (fun _ => 0, fun _ => 0, fun _ _ => 0)
/-- the plan p of k rules by the table D -/
def ins (L D : zPL) (p k : Nat) : zPL := (fun j => if j = p then k else pnr L j, fun q => if 12 * p ≤ q ∧ q < 12 * p + 12 then pnt D (q - 12 * p) else pnt L q, fun i j => if i = 1 then (if 12 * p ≤ j ∧ j < 12 * p + 12 then pA D 1 (j - 12 * p) else pA L 1 j) else (if 48 * p ≤ j ∧ j < 48 * p + 48 then pA D i (j - 48 * p) else pA L i j))
def oPlan (G : zGl) (n : Int32) : Int32 × zGl := if tin n 0 (gU G 0 0) = 0 then (-1, gtr G 2 (-1)) else match pPl (gX G n) 12 pD0 0 0 with
  | Sum.inl f => (-1, sU G (uTk (gU G) 4 (Int32.ofNat f.2) f.1))
  | Sum.inr r => if gp G = 8 then (-1, sU G (uTk (gU G) 3 (-1) 0)) else (Int32.ofNat (gp G), sPl (sU G (uTk (gU G) 0 (-1) 0)) (ins (gL G) r.1 (gp G) r.2) (gp G + 1))
/-- what a call of the class leaves as it was; c cells and u slots are new -/
def xFr (B c u : Nat) (S S' : zM) (I I' : Nat → Nat → Int32) : Prop := (mS S ≤ mS S' ∧ mS S' ≤ mS S + c ∧ mU S' ≤ mU S + u) ∧ (∀ a, a < mS S → mK S' a = mK S a ∧ mN S' a = mN S a) ∧ (∀ a k, (a < B ∨ (B + 318 ≤ a ∧ a < B + 466)) → mJ S' a k = mJ S a k ∧ I' a k = I a k) ∧ (∀ a, mS S' ≤ a → mK S' a = 0)
theorem uTk_1 {U : zT} {a b c : Int32} {j : Nat} : uTk U a b c 1 j = U 1 j := by
  unfold uTk
  rw [zup_k (by omega), zup_k (by omega), zup_k (by omega), zup_k (by omega)]
theorem uTk_00 {U : zT} {a b c : Int32} : uTk U a b c 0 0 = 0 := by
  unfold uTk
  rw [zup_k (by omega), zup_k (by omega), zup_k (by omega), zup_q]
theorem uTk_01 {U : zT} {a b c : Int32} : uTk U a b c 0 1 = a := by
  unfold uTk
  rw [zup_k (by omega), zup_k (by omega), zup_q]
theorem uTk_02 {U : zT} {a b c : Int32} : uTk U a b c 0 2 = b := by
  unfold uTk
  rw [zup_k (by omega), zup_q]
theorem uTk_03 {U : zT} {a b c : Int32} : uTk U a b c 0 3 = c := zup_q _ _ _ _
section
variable {L D : zPL} {p q k r i j : Nat}
theorem ins_n : pnr (ins L D p k) p = k := if_pos rfl
theorem ins_no (h : q ≠ p) : pnr (ins L D p k) q = pnr L q := if_neg h
theorem ins_t (h : r < 12) : pnt (ins L D p k) (12 * p + r) = pnt D r := by
  show (if 12 * p ≤ 12 * p + r ∧ 12 * p + r < 12 * p + 12 then pnt D (12 * p + r - 12 * p) else pnt L (12 * p + r)) = _
  rw [if_pos (by omega), show 12 * p + r - 12 * p = r by omega]
theorem ins_to (h : q ≠ p) (hr : r < 12) : pnt (ins L D p k) (12 * q + r) = pnt L (12 * q + r) := if_neg (by omega)
theorem ins_a (h : r < 12) : pA (ins L D p k) 1 (12 * p + r) = pA D 1 r := by
  show (if 12 * p ≤ 12 * p + r ∧ 12 * p + r < 12 * p + 12 then pA D 1 (12 * p + r - 12 * p) else pA L 1 (12 * p + r)) = _
  rw [if_pos (by omega), show 12 * p + r - 12 * p = r by omega]
theorem ins_ao (h : q ≠ p) (hr : r < 12) : pA (ins L D p k) 1 (12 * q + r) = pA L 1 (12 * q + r) := by
  show (if 12 * p ≤ 12 * q + r ∧ 12 * q + r < 12 * p + 12 then pA D 1 (12 * q + r - 12 * p) else pA L 1 (12 * q + r)) = _
  rw [if_neg (by omega)]
theorem ins_r (h : r < 12) (hj : j < 4) (hi : 2 < i) : pA (ins L D p k) i (4 * (12 * p + r) + j) = pA D i (4 * r + j) := by
  show (if i = 1 then _ else (if 48 * p ≤ 4 * (12 * p + r) + j ∧ 4 * (12 * p + r) + j < 48 * p + 48 then pA D i (4 * (12 * p + r) + j - 48 * p) else pA L i (4 * (12 * p + r) + j))) = _
  rw [if_neg (by omega), if_pos (by omega), show 4 * (12 * p + r) + j - 48 * p = 4 * r + j by omega]
theorem ins_ro (h : q ≠ p) (hr : r < 12) (hj : j < 4) (hi : 2 < i) : pA (ins L D p k) i (4 * (12 * q + r) + j) = pA L i (4 * (12 * q + r) + j) := by
  show (if i = 1 then _ else (if 48 * p ≤ 4 * (12 * q + r) + j ∧ 4 * (12 * q + r) + j < 48 * p + 48 then pA D i (4 * (12 * q + r) + j - 48 * p) else pA L i (4 * (12 * q + r) + j))) = _
  rw [if_neg (by omega), if_neg (by omega)]
end
section
variable {S S' : zM} {I J : Nat → Nat → Int32} {B lo pa ra p k : Nat} {G : zGl} {L D : zPL}
/-- plans that were there -/
theorem xPl.keepI (h : xPl S I lo pa p L) {q : Nat} (hq : p ≠ q) : xPl S I lo pa p (ins L D q k) := by
  obtain ⟨g2, g3, g4, g5, ra, g6, g7, g8, g9, g10⟩ := h
  refine ⟨g2, g3, ?_, ?_, ra, g6, g7, g8, g9, fun r hr => ?_⟩
  · rw [ins_no hq]
    exact g4
  · rw [ins_no hq]
    exact g5
  · rw [ins_no hq] at hr
    obtain ⟨rr, k1, k2, k3, k4, k5, k6, ta, k7, k8, k9, k10, k11⟩ := g10 r hr
    refine ⟨rr, k1, k2, k3, ?_, ?_, ?_, ta, k7, k8, k9, k10, fun j hj => ?_⟩
    · rw [ins_ao hq (by omega)]
      exact k4
    · rw [ins_to hq (by omega)]
      exact k5
    · rw [ins_to hq (by omega)]
      exact k6
    · rw [ins_to hq (by omega)] at hj
      obtain ⟨te, j1, j2, j3, j4, j5, j6⟩ := k11 j hj
      refine ⟨te, j1, j2, j3, ?_, ?_, ?_⟩
      · rw [ins_ro hq (by omega) (by omega) (by omega)]
        exact j4
      · rw [ins_ro hq (by omega) (by omega) (by omega)]
        exact j5
      · rw [ins_ro hq (by omega) (by omega) (by omega)]
        exact j6
/-- the plan that was read -/
theorem xPp.pl (h : xPp S I lo pa ra k D) : xPl S I lo pa p (ins L D p k) := by
  obtain ⟨⟨a1, a2, a3, a4, a5⟩, ⟨b1, b2, b3, b4, b5, b6⟩, c⟩ := h
  refine ⟨a1, a3, ?_, ?_, ra, b1, b4, b5, b6, fun r hr => ?_⟩
  · rw [ins_n]
    exact a4
  · rw [ins_n]
    exact a5
  · rw [ins_n] at hr
    obtain ⟨rr, c1, ta, ⟨⟨y1, y2, y3, y4, y5⟩, ⟨y6, y7, y8, y9, y10, y11⟩, y12⟩, y13⟩ := c r hr
    refine ⟨rr, c1, y1, y3, ?_, ?_, ?_, ta, y6, y9, y10, y11, fun j hj => ?_⟩
    · rw [ins_a (by omega)]
      exact y13
    · rw [ins_t (by omega)]
      exact y4
    · rw [ins_t (by omega)]
      exact y5
    · rw [ins_t (by omega)] at hj
      obtain ⟨te, t1, t2, t3, t4, t5, t6, t7⟩ := y12 j hj
      refine ⟨te, t1, t3, t4, ?_, ?_, ?_⟩
      · rw [ins_r (by omega) (by omega) (by omega)]
        exact t5
      · rw [ins_r (by omega) (by omega) (by omega)]
        exact t6
      · rw [ins_r (by omega) (by omega) (by omega)]
        exact t7
theorem xPl.fx (h : xPl S I lo pa p L) (hJ : ∀ a k, lo ≤ a → mJ S' a k = mJ S a k) (hK : mK S' = mK S) (hN : mN S' = mN S) (hI : ∀ a k, lo ≤ a → J a k = I a k) : xPl S' J lo pa p L := by
  obtain ⟨g2, g3, g4, g5, ra, g6, g7, g8, g9, g10⟩ := h
  rw [← hK] at g3 g8
  rw [← hN] at g9
  refine ⟨g2, g3, (hI _ _ g2).trans g4, g5, ra, g6, (hJ _ _ g2).trans g7, g8, g9, fun r hr => ?_⟩
  obtain ⟨rr, k1, k2, k3, k4, k5, k6, ta, k7, k8, k9, k10, k11⟩ := g10 r hr
  rw [← hK] at k3 k9
  rw [← hN] at k10
  refine ⟨rr, (hJ _ _ g6).trans k1, k2, k3, (hI _ _ k2).trans k4, (hI _ _ k2).trans k5, k6, ta, k7, (hJ _ _ k2).trans k8, k9, k10, fun j hj => ?_⟩
  obtain ⟨te, j1, j2, j3, j4, j5, j6⟩ := k11 j hj
  rw [← hK] at j3
  exact ⟨te, (hJ _ _ k7).trans j1, j2, j3, (hI _ _ j2).trans j4, (hI _ _ j2).trans j5, (hI _ _ j2).trans j6⟩
/-- one plan more -/
theorem XG.pl (h : XG S I B G) (hi : IG G) (hp : xPp S I (B + 466) pa ra k D) (h8 : gp G < 8) : XG (sJ S (B + 314) (gp G) (some pa)) (zup I B 10 (Int32.ofNat (gp G + 1))) B (sPl G (ins (gL G) D (gp G) k) (gp G + 1)) := by
  obtain ⟨h1, ⟨⟨s1, s2, s3, s4⟩, s5, s6, s7, s8⟩, h3, h4, h5, h6⟩ := h
  have J1 : ∀ a i, ¬ (a = B + 314 ∧ i = gp G) → mJ (sJ S (B + 314) (gp G) (some pa)) a i = mJ S a i := fun a i q => if_neg q
  have I1 : ∀ a i, ¬ (a = B ∧ i = 10) → zup I B 10 (Int32.ofNat (gp G + 1)) a i = I a i := fun a i q => zup_k q
  refine ⟨h1.gr (fun _ _ _ => ⟨rfl, rfl⟩) (fun a i l1 l2 _ => J1 a i (by omega)), ⟨⟨(I1 _ _ (by omega)).trans s1, (I1 _ _ (by omega)).trans s2, (I1 _ _ (by omega)).trans s3, (I1 _ _ (by omega)).trans s4⟩, (I1 _ _ (by omega)).trans s5, zup_q _ _ _ _, (I1 _ _ (by omega)).trans s7, fun j hj => (I1 _ _ (by omega)).trans (s8 j hj)⟩, h3.fr hi.1.1.2.1 hi.1.ok (fun a i l1 l2 => I1 a i (by omega)), h4.fr hi.2.1.1.2.1 hi.2.1.ok (fun a i l1 l2 => I1 a i (by omega)), ⟨by show gp G + 1 ≤ 8; omega, fun p hp2 => ?_⟩, ?_⟩
  · have hp2 : p < gp G + 1 := hp2
    by_cases q : p = gp G
    · subst q
      refine ⟨pa, if_pos ⟨rfl, rfl⟩, ?_⟩
      exact (hp.pl (L := gL G) (p := gp G)).fx (fun a i l => J1 a i (by omega)) rfl rfl (fun a i l => I1 a i (by omega))
    · obtain ⟨p', q1, q2⟩ := h5.2 p (by omega)
      exact ⟨p', (J1 _ _ (by omega)).trans q1, (q2.keepI q).fx (fun a i l => J1 a i (by omega)) rfl rfl (fun a i l => I1 a i (by omega))⟩
  · refine ⟨h6.1, fun i hi => ?_⟩
    obtain ⟨a, q1, q2⟩ := h6.2 i hi
    exact ⟨a, (J1 _ _ (by omega)).trans q1, q2.fr (fun a k l => I1 a k (by omega))⟩
end
section
variable {E : zE} {d B : Nat} {S : zM} {I : Nat → Nat → Int32} {G : zGl} {n : Int32}
theorem sp_X0_takes_0 (hB : E.1 ≤ B) (h : XG S I B G) (hn : tin n 0 (gU G 0 0) = 0) : zCl E (d + 1) 38 [zr (some B), zi n] (zwi S I) (Sum.inl (some (zi 0)), zwi S (zup (zup (zup I B 13 0) B 15 (-1)) B 13 2)) := by
  have b0 := h.1.1
  have e1 := h.2.1.1.1
  have cb := sp_X0_begins (E := E) (d := d) (I := I) hB b0
  have ci := sp_X0_in (E := E) (d := d) (S := S) (I := zup (zup I B 13 0) B 15 (-1)) n 0 (gU G 0 0)
  rw [hn] at ci
  refine zcl_in' zP_X0_takes ?_; rw [zn_2_2]
  refine zat_in zP_X0_takes zk_X0_takes_0 ?_
  simp (disch := omega) only [b_X0_takes_0, zif, zdr, zkb, mK_wi, mN_wi, mJ_wi, mI_wi, sI_wi, beq_self_eq_true, Bool.true_or, Bool.or_true, Bool.or_false, Bool.and_self, Bool.and_true, Bool.true_and, ↓reduceIte, ble_up0, i_cl, i_succ, zix_of, zfl_k, zup_k, zup_q, b0]
  refine ev_cv cb ?_
  try simp (disch := omega) only [zif, zdr, zkb, mK_wi, mN_wi, mJ_wi, mI_wi, sI_wi, beq_self_eq_true, Bool.true_or, Bool.or_true, Bool.or_false, Bool.and_self, Bool.and_true, Bool.true_and, ↓reduceIte, ble_up0, i_cl, i_succ, zix_of, zfl_k, zup_k, zup_q, b0, e1]
  refine ev_ci ci ?_
  refine ev_th _ (fun _ => ?_) (fun h => (h (by first | rfl | trivial)).elim)
  simp (disch := omega) only [zif, zdr, zkb, mK_wi, mN_wi, mJ_wi, mI_wi, sI_wi, beq_self_eq_true, Bool.true_or, Bool.or_true, Bool.or_false, Bool.and_self, Bool.and_true, Bool.true_and, ↓reduceIte, ble_up0, i_cl, i_succ, zix_of, zfl_k, zup_k, zup_q, b0]
  exact ev_r
/-- the tape is a text now; the first token is read -/
theorem sp_X0_takes_1 (hB : E.1 ≤ B) (h : XG S I B G) (hi : IG G) (hT : xTX E S I B) (hm : B + 466 ≤ mS S) (hz : ∀ a, mS S ≤ a → mK S a = 0) (hn : ¬ tin n 0 (gU G 0 0) = 0) : ∃ S' I', zCl E (d + 6) 38 [zr (some B), zi n] (zwi S I) (Sum.inl (some (zi 1)), zwi S' I') ∧ xRD E S' I' B (gX G n) 0 ∧ rFr B (mS S) 2 12 S S' (zup (zup (zup (zup (zup (zup I B 13 0) B 15 (-1)) B 1 0) B 14 0) (B + 2) 3 n) (B + 2) 4 0) I' := by
  have hcs := h.1
  obtain ⟨b0, ⟨b3, b4, b5⟩, hwn, hwk, hal, ⟨b7, bk7, bn7⟩, ⟨b8, bk8, bn8⟩, ⟨b9, bk9, bn9⟩, ⟨b12, bk12⟩, ⟨ba0, bka0, bna0⟩, b2, bk2, ⟨br0, brk0⟩, br1, br2, brk2, brn2⟩ := id hcs
  have e1 := h.2.1.1.1
  have hu := hi.2.2.2.2
  obtain ⟨n1, n2⟩ := tin_1 hn
  have en : n = Int32.ofNat (nn n) := i_toN n1
  have n3 : nn n ≤ 400 := by
    have h1 := i_nnI n1
    rw [Int32.le_iff_toInt_le, hu.1, i_int (by have := hu.2; omega)] at n2
    have := hu.2
    omega
  have RS : xRS S B := ⟨⟨bka0, bna0⟩, bk2, ⟨br0, brk0⟩, br1, br2, brk2, brn2⟩
  have cb := sp_X0_begins (E := E) (d := d + 5) (I := I) hB b0
  have ci := sp_X0_in (E := E) (d := d + 5) (S := S) (I := zup (zup I B 13 0) B 15 (-1)) n 0 (gU G 0 0)
  have rd : rdI (zup (zup (zup (zup (zup (zup I B 13 0) B 15 (-1)) B 1 0) B 14 0) (B + 2) 3 n) (B + 2) 4 0) B (gX G n) := by
    refine ⟨?_, fun j hj => ?_⟩
    · simp (disch := omega) only [zfl_k, zfl_q, zup_k, zup_q]
      exact en
    · simp (disch := omega) only [zfl_k, zfl_q, zup_k, zup_q]
      exact h.2.1.2.2.2.2 j hj
  obtain ⟨S1, I1, a1, b1, f1⟩ := sp_X1_next (E := E) (d := d) (X := gX G n) (e := 0) hB RS hm hz n3 rd (zup_q _ _ _ _) (Nat.zero_le _)
  have hT0 : xTX E S (zup (zup (zup (zup (zup (zup I B 13 0) B 15 (-1)) B 1 0) B 14 0) (B + 2) 3 n) (B + 2) 4 0) B := by
    intro i hi
    obtain ⟨tb, t1, t2, t3, t4, t5, t6, t7, t8⟩ := hT i hi
    refine ⟨tb, t1, t2, t3, t4, ?_, t6, t7, fun j hj => ?_⟩
    · simp (disch := omega) only [zfl_k, zfl_q, zup_k, zup_q]
      exact t5
    · simp (disch := omega) only [zfl_k, zfl_q, zup_k, zup_q]
      exact t8 j hj
  refine ⟨S1, I1, ?_, ⟨RS.fr f1 hm, hT0.fr f1 hm, b1, by have := f1.1.1; omega, f1.2.2.2.2, Nat.zero_le _⟩, f1⟩
  have e23 := @b_X0_takes_23
  have ebg := @b_X1_begin_0
  have cg : zCl E (d + 5) 72 [zr (some (B + 2)), zi n] (zwi S (zup (zup (zup (zup I B 13 0) B 15 (-1)) B 1 0) B 14 0)) (Sum.inl none, zwi S1 I1) := by
    refine zcl_in' zP_X1_begin ?_; rw [zn_2_2]
    refine zat_in zP_X1_begin zk_X1_begin_0 ?_
    simp (disch := omega) only [ebg, zif, zdr, zkb, mK_wi, mN_wi, mJ_wi, mI_wi, sI_wi, beq_self_eq_true, Bool.true_or, Bool.or_true, Bool.or_false, Bool.and_self, Bool.and_true, Bool.true_and, ↓reduceIte, ble_up0, i_cl, i_succ, zix_of, zfl_k, zup_k, zup_q, bk2]
    refine ev_cv a1 ?_
    exact ev_r
  refine zcl_in' zP_X0_takes ?_; rw [zn_2_2]
  refine zat_in zP_X0_takes zk_X0_takes_0 ?_
  simp (disch := omega) only [b_X0_takes_0, zif, zdr, zkb, mK_wi, mN_wi, mJ_wi, mI_wi, sI_wi, beq_self_eq_true, Bool.true_or, Bool.or_true, Bool.or_false, Bool.and_self, Bool.and_true, Bool.true_and, ↓reduceIte, ble_up0, i_cl, i_succ, zix_of, zfl_k, zup_k, zup_q, b0]
  refine ev_cv cb ?_
  try simp (disch := omega) only [zif, zdr, zkb, mK_wi, mN_wi, mJ_wi, mI_wi, sI_wi, beq_self_eq_true, Bool.true_or, Bool.or_true, Bool.or_false, Bool.and_self, Bool.and_true, Bool.true_and, ↓reduceIte, ble_up0, i_cl, i_succ, zix_of, zfl_k, zup_k, zup_q, b0, e1]
  refine ev_ci ci ?_
  refine ev_th _ (fun h => absurd h hn) (fun _ => ?_)
  refine ev_bk ?_
  refine zat_in zP_X0_takes zk_X0_takes_23 ?_
  simp (disch := omega) only [e23, zif, zdr, zkb, mK_wi, mN_wi, mJ_wi, mI_wi, sI_wi, beq_self_eq_true, Bool.true_or, Bool.or_true, Bool.or_false, Bool.and_self, Bool.and_true, Bool.true_and, ↓reduceIte, ble_up0, i_cl, i_succ, zix_of, zfl_k, zup_k, zup_q, b0, b2, bk2]
  refine ev_cv cg ?_
  try simp (disch := omega) only [zif, zdr, zkb, mK_wi, mN_wi, mJ_wi, mI_wi, sI_wi, beq_self_eq_true, Bool.true_or, Bool.or_true, Bool.or_false, Bool.and_self, Bool.and_true, Bool.true_and, ↓reduceIte, ble_up0, i_cl, i_succ, zix_of, zfl_k, zup_k, zup_q]
  exact ev_r
end
