/-! ===== plans: tables of rules and tests; which rule holds ===== -/
set_option maxRecDepth 100000
/-- rules of a plan, tests of a rule (by 12 p + r), acts and tests (rows 1 act, 3 name, 4 less, 5 number; tests by 4 q + k) -/
abbrev zPL : Type := (Nat → Nat) × (Nat → Nat) × zT
def pnr (L : zPL) : Nat → Nat := L.1
def pnt (L : zPL) : Nat → Nat := L.2.1
def pA (L : zPL) : zT := L.2.2
def mPS (S : zM) (w : Nat) : Prop := mK S w = 7 ∧ (mK S (w + 21) = 101 ∧ mN S (w + 21) = 9 ∧ mJ S w 32 = some (w + 21)) ∧ (mK S (w + 22) = 101 ∧ mN S (w + 22) = 108 ∧ mJ S w 33 = some (w + 22)) ∧ (mK S (w + 23) = 101 ∧ mN S (w + 23) = 108 ∧ mJ S w 34 = some (w + 23)) ∧ (mK S (w + 24) = 101 ∧ mN S (w + 24) = 432 ∧ mJ S w 35 = some (w + 24)) ∧ (mK S (w + 25) = 101 ∧ mN S (w + 25) = 432 ∧ mJ S w 36 = some (w + 25)) ∧ (mK S (w + 26) = 104 ∧ mN S (w + 26) = 432 ∧ mJ S w 37 = some (w + 26))
/-- the rule q = 12 p + r in the model -/
def mRu (I : Nat → Nat → Int32) (w q : Nat) (L : zPL) : Prop := I (w + 22) q = pA L 1 q ∧ I (w + 23) q = Int32.ofNat (pnt L q) ∧ pnt L q ≤ 4 ∧ ∀ k, k < pnt L q → I (w + 24) (4 * q + k) = pA L 3 (4 * q + k) ∧ I (w + 26) (4 * q + k) = pA L 4 (4 * q + k) ∧ I (w + 25) (4 * q + k) = pA L 5 (4 * q + k)
def mPl (I : Nat → Nat → Int32) (w p : Nat) (L : zPL) : Prop := I (w + 21) p = Int32.ofNat (pnr L p) ∧ pnr L p ≤ 12 ∧ ∀ r, r < pnr L p → mRu I w (12 * p + r) L
/-- a test, a rule, a plan of the class -/
def xTe (S : zM) (I : Nat → Nat → Int32) (lo te j : Nat) (L : zPL) : Prop := lo ≤ te ∧ mK S te = 12 ∧ I te 0 = pA L 3 j ∧ I te 2 = pA L 4 j ∧ I te 1 = pA L 5 j
def xRu (S : zM) (I : Nat → Nat → Int32) (lo rr q : Nat) (L : zPL) : Prop := lo ≤ rr ∧ mK S rr = 11 ∧ I rr 2 = pA L 1 q ∧ I rr 1 = Int32.ofNat (pnt L q) ∧ pnt L q ≤ 4 ∧ ∃ ta, lo ≤ ta ∧ mJ S rr 0 = some ta ∧ mK S ta = 107 ∧ mN S ta = 4 ∧ ∀ k, k < pnt L q → ∃ te, mJ S ta k = some te ∧ xTe S I lo te (4 * q + k) L
def xPl (S : zM) (I : Nat → Nat → Int32) (lo pa p : Nat) (L : zPL) : Prop := lo ≤ pa ∧ mK S pa = 10 ∧ I pa 1 = Int32.ofNat (pnr L p) ∧ pnr L p ≤ 12 ∧ ∃ ra, lo ≤ ra ∧ mJ S pa 0 = some ra ∧ mK S ra = 108 ∧ mN S ra = 12 ∧ ∀ r, r < pnr L p → ∃ rr, mJ S ra r = some rr ∧ xRu S I lo rr (12 * p + r) L
def tth (v less num : Int32) : Int32 := if less = 0 then (if v ≤ num then 0 else 1) else (if num ≤ v then 0 else 1)
/-- the first k tests of rule q hold -/
def tall (f : Int32 → Int32) (L : zPL) (q : Nat) : Nat → Int32
  | 0 => 1
  | k + 1 => if tall f L q k = 0 then 0 else tth (f (pA L 3 (4 * q + k))) (pA L 4 (4 * q + k)) (pA L 5 (4 * q + k))
/-- the first rule from k on that holds, c are left -/
def trul (f : Int32 → Int32) (L : zPL) (p : Nat) : Nat → Nat → Nat
  | 0, k => k
  | c + 1, k => if tall f L (12 * p + k) (pnt L (12 * p + k)) = 0 then trul f L p c (k + 1) else k
theorem tth_b {v l n : Int32} : tth v l n = 0 ∨ tth v l n = 1 := by
  unfold tth
  split <;> split <;> simp
theorem tall_b {f : Int32 → Int32} {L : zPL} {q : Nat} : ∀ k, tall f L q k = 0 ∨ tall f L q k = 1
  | 0 => Or.inr rfl
  | k + 1 => by
    unfold tall
    split
    · exact Or.inl rfl
    · exact tth_b
theorem tall_0 {f : Int32 → Int32} {L : zPL} {q k : Nat} (h : tall f L q k = 0) : ∀ c, tall f L q (k + c) = 0
  | 0 => h
  | c + 1 => by
    show tall f L q (k + c + 1) = 0
    unfold tall
    rw [if_pos (tall_0 h c)]
theorem z01 {x : Int32} (h : x = 0 ∨ x = 1) : (x == 0 || x == 1) = true := by
  rcases h with rfl | rfl <;> rfl
theorem trul_le {f : Int32 → Int32} {L : zPL} {p : Nat} : ∀ c k, trul f L p c k ≤ k + c ∧ k ≤ trul f L p c k
  | 0, k => ⟨Nat.le_refl _, Nat.le_refl _⟩
  | c + 1, k => by
    unfold trul
    split
    · have := trul_le (f := f) (L := L) (p := p) c (k + 1)
      omega
    · omega
section
variable {E : zE} {d t w nd ng lg s b q lo p : Nat} {M S : zM} {I : Nat → Nat → Int32} {T V : zT} {L : zPL}
theorem sp_X11_holds {te j : Nat} (hE : xTe S I lo te j L) (hS : xTS S t) (hW : xWS S w) (hn : nd ≤ 16) (hP : xP I t nd ng T) (hV : wP I w V) (h0 : T 0 0 = Int32.ofNat nd) (hl : T 0 6 = Int32.ofNat lg) (hlg : lg < 12) (hs : s < 2000) (hb : tweak T nd = some b) : zCl E (d + 4) 198 [zr (some te), zr (some t), zr (some w), zi (Int32.ofNat s)] (zwi S I) (Sum.inl (some (zi (tth (ttold T V nd lg s (pA L 3 j)) (pA L 4 j) (pA L 5 j)))), zwi S I) := by
  obtain ⟨-, k1, k2, k3, k4⟩ := hE
  have q1 := hS.1.1
  refine zcl_in' zP_X11_holds ?_; rw [zn_4_5]
  refine zat_in zP_X11_holds zk_X11_holds_0 ?_; simp (disch := omega) only [b_X11_holds_0, zif, zdr, zkb, mK_wi, mN_wi, mJ_wi, mI_wi, sI_wi, beq_self_eq_true, Bool.true_or, Bool.or_true, Bool.or_false, Bool.and_self, Bool.and_true, Bool.true_and, ↓reduceIte, q1, k1, k2]
  refine ev_ci (sp_X4_told hS hW hn hP hV h0 hl hlg hs hb) ?_
  generalize ttold T V nd lg s (pA L 3 j) = v
  simp only [zif, zdr, zkb, mK_wi, mN_wi, mJ_wi, mI_wi, sI_wi, beq_self_eq_true, Bool.true_or, Bool.or_true, Bool.or_false, Bool.and_self, Bool.and_true, Bool.true_and, ↓reduceIte, k1, k3, k4]
  have h1 : ((1 : Int32) == 0) = false := by decide
  unfold tth
  refine ev_th _ (fun h => ?_) (fun h => ?_)
  · rw [if_pos h]
    refine ev_bk ?_
    refine zat_in zP_X11_holds zk_X11_holds_36 ?_; simp (disch := omega) only [b_X11_holds_36, zif, zdr, zkb, mK_wi, mN_wi, mJ_wi, mI_wi, sI_wi, beq_self_eq_true, Bool.true_or, Bool.or_true, Bool.or_false, Bool.and_self, Bool.and_true, Bool.true_and, ↓reduceIte, k1, k4]
    refine ev_th _ (fun h => ?_) (fun h => ?_)
    · rw [if_pos h]
      refine ev_bk ?_
      refine zat_in zP_X11_holds zk_X11_holds_49 ?_; simp (disch := omega) only [b_X11_holds_49, zc_X11_holds_50, b_X11_holds_50, zif, zdr, zkb, mK_wi, mN_wi, mJ_wi, mI_wi, sI_wi, beq_self_eq_true, Bool.true_or, Bool.or_true, Bool.or_false, Bool.and_self, Bool.and_true, Bool.true_and, ↓reduceIte]
      exact ev_r
    · rw [if_neg h]
      refine ev_bk ?_
      refine zat_in zP_X11_holds zk_X11_holds_50 ?_; simp (disch := omega) only [b_X11_holds_50, zif, zdr, zkb, mK_wi, mN_wi, mJ_wi, mI_wi, sI_wi, beq_self_eq_true, Bool.true_or, Bool.or_true, Bool.or_false, Bool.and_self, Bool.and_true, Bool.true_and, ↓reduceIte]
      exact ev_r
  · rw [if_neg h]
    refine ev_th _ (fun h => ?_) (fun h => ?_)
    · rw [if_pos h]
      refine ev_bk ?_
      refine zat_in zP_X11_holds zk_X11_holds_32 ?_; simp (disch := omega) only [b_X11_holds_32, zif, zdr, zkb, mK_wi, mN_wi, mJ_wi, mI_wi, sI_wi, beq_self_eq_true, Bool.true_or, Bool.or_true, Bool.or_false, Bool.and_self, Bool.and_true, Bool.true_and, ↓reduceIte]
      refine ev_bk ?_
      refine zat_in zP_X11_holds zk_X11_holds_50 ?_; simp (disch := omega) only [b_X11_holds_50, zif, zdr, zkb, mK_wi, mN_wi, mJ_wi, mI_wi, sI_wi, beq_self_eq_true, Bool.true_or, Bool.or_true, Bool.or_false, Bool.and_self, Bool.and_true, Bool.true_and, ↓reduceIte]
      exact ev_r
    · rw [if_neg h]
      refine ev_bk ?_
      refine zat_in zP_X11_holds zk_X11_holds_50 ?_; simp (disch := omega) only [b_X11_holds_50, zif, zdr, zkb, mK_wi, mN_wi, mJ_wi, mI_wi, sI_wi, beq_self_eq_true, Bool.true_or, Bool.or_true, Bool.or_false, Bool.and_self, Bool.and_true, Bool.true_and, ↓reduceIte]
      exact ev_r
theorem lp_X10_holds {rr : Nat} (hR : xRu S I lo rr q L) (hS : xTS S t) (hW : xWS S w) (hn : nd ≤ 16) (hP : xP I t nd ng T) (hV : wP I w V) (h0 : T 0 0 = Int32.ofNat nd) (hl : T 0 6 = Int32.ofNat lg) (hlg : lg < 12) (hs : s < 2000) (hb : tweak T nd = some b) : ∀ c k : Nat, k + c = pnt L q → zAt E (d + 5) 196 6 [some (zr (some rr)), some (zr (some t)), some (zr (some w)), some (zi (Int32.ofNat s)), some (zi (tall (ttold T V nd lg s) L q k)), some (zi (Int32.ofNat k))] [] (zwi S I) (Sum.inl (some (zi (tall (ttold T V nd lg s) L q (pnt L q)))), zwi S I) := by
  obtain ⟨-, k1, k2, k3, k4, ta, -, k5, k6, k7, k8⟩ := hR
  intro c
  induction c with
  | zero =>
    intro k hk
    obtain rfl : k = pnt L q := hk
    refine zat_in zP_X10_holds zk_X10_holds_6 ?_; simp (disch := omega) only [b_X10_holds_6, zif, zdr, zkb, mK_wi, mN_wi, mJ_wi, mI_wi, sI_wi, beq_self_eq_true, Bool.true_or, Bool.or_true, Bool.or_false, Bool.and_self, Bool.and_true, Bool.true_and, ↓reduceIte, k1, k3, i_le, Nat.le_refl]
    refine ev_bk ?_
    refine zat_in zP_X10_holds zk_X10_holds_41 ?_; simp (disch := omega) only [b_X10_holds_41, zif, zdr, zkb, mK_wi, mN_wi, mJ_wi, mI_wi, sI_wi, beq_self_eq_true, Bool.true_or, Bool.or_true, Bool.or_false, Bool.and_self, Bool.and_true, Bool.true_and, ↓reduceIte, z01 (tall_b _)]
    exact ev_r
  | succ c ih =>
    intro k hk
    have hle : (pnt L q ≤ k) = False := eq_false (by omega)
    obtain ⟨te, k9, k10⟩ := k8 k (by omega)
    have hz : zix (Int32.ofNat k) 4 = true := zix_of (by omega) (by omega)
    refine zat_in zP_X10_holds zk_X10_holds_6 ?_; simp (disch := omega) only [b_X10_holds_6, zif, zdr, zkb, mK_wi, mN_wi, mJ_wi, mI_wi, sI_wi, beq_self_eq_true, Bool.true_or, Bool.or_true, Bool.or_false, Bool.and_self, Bool.and_true, Bool.true_and, ↓reduceIte, k1, k3, k5, k6, k7, k9, k10.2.1, i_le, i_cl, hle, hz, Nat.reduceLeDiff]
    refine ev_th _ (fun h => ?_) (fun h => ?_)
    · have h2 := tall_0 h (c + 1)
      rw [hk] at h2
      refine ev_bk ?_
      refine zat_in zP_X10_holds zk_X10_holds_41 ?_; simp (disch := omega) only [b_X10_holds_41, zif, zdr, zkb, mK_wi, mN_wi, mJ_wi, mI_wi, sI_wi, beq_self_eq_true, Bool.true_or, Bool.or_true, Bool.or_false, Bool.and_self, Bool.and_true, Bool.true_and, ↓reduceIte, z01 (tall_b _)]
      rw [h2, h]
      exact ev_r
    · refine ev_ci (sp_X11_holds k10 hS hW hn hP hV h0 hl hlg hs hb) ?_
      have h3 := ih (k + 1) (by omega)
      rw [show tall (ttold T V nd lg s) L q (k + 1) = tth (ttold T V nd lg s (pA L 3 (4 * q + k))) (pA L 4 (4 * q + k)) (pA L 5 (4 * q + k)) from if_neg h] at h3
      rw [i_succ]
      exact ev_bk h3
theorem sp_X10_holds {rr : Nat} (hR : xRu S I lo rr q L) (hS : xTS S t) (hW : xWS S w) (hn : nd ≤ 16) (hP : xP I t nd ng T) (hV : wP I w V) (h0 : T 0 0 = Int32.ofNat nd) (hl : T 0 6 = Int32.ofNat lg) (hlg : lg < 12) (hs : s < 2000) (hb : tweak T nd = some b) : zCl E (d + 5) 196 [zr (some rr), zr (some t), zr (some w), zi (Int32.ofNat s)] (zwi S I) (Sum.inl (some (zi (tall (ttold T V nd lg s) L q (pnt L q)))), zwi S I) := by
  refine zcl_in' zP_X10_holds ?_; rw [zn_4_6]
  refine zat_in zP_X10_holds zk_X10_holds_0 ?_
  simp only [b_X10_holds_0]
  exact ev_tl zP_X10_holds zk_X10_holds_6 (lp_X10_holds hR hS hW hn hP hV h0 hl hlg hs hb (pnt L q) 0 (by omega))
end
