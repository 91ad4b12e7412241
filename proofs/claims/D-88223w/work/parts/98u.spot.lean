/-! ===== spot: what it tells ===== -/
set_option maxRecDepth 100000
def prevS (T : zT) : Nat → Option Nat
  | 0 => none
  | c + 1 => if T 8 c = -1 then prevS T c else some c
def nextS (T : zT) : Nat → Nat → Nat
  | 0, s => s
  | c + 1, s => if T 8 s = -1 then nextS T c (s + 1) else s
theorem prevS_n {T : zT} : ∀ c, prevS T c = none → cS T c = 0
  | 0, _ => rfl
  | c + 1, h => by
    unfold prevS at h
    rw [cS_s]
    by_cases e : T 8 c = -1
    · rw [if_pos e] at h ⊢
      rw [prevS_n c h]
    · rw [if_neg e] at h
      exact absurd h (by simp)
theorem prevS_s {T : zT} : ∀ c s, prevS T c = some s → s < c ∧ T 8 s ≠ -1 ∧ cS T c = cS T s + 1
  | 0, _, h => absurd h (by simp [prevS])
  | c + 1, s, h => by
    unfold prevS at h
    rw [cS_s]
    by_cases e : T 8 c = -1
    · rw [if_pos e] at h ⊢
      obtain ⟨h1, h2, h3⟩ := prevS_s c s h
      exact ⟨by omega, h2, by omega⟩
    · rw [if_neg e] at h ⊢
      obtain rfl : c = s := by simpa using h
      exact ⟨by omega, e, rfl⟩
theorem nextS_a {T : zT} : ∀ c s, s ≤ nextS T c s ∧ nextS T c s ≤ s + c ∧ cS T (nextS T c s) = cS T s ∧ (nextS T c s < s + c → T 8 (nextS T c s) ≠ -1)
  | 0, s => ⟨Nat.le_refl _, Nat.le_refl _, rfl, fun h => absurd h (Nat.lt_irrefl _)⟩
  | c + 1, s => by
    unfold nextS
    by_cases e : T 8 s = -1
    · rw [if_pos e]
      obtain ⟨h1, h2, h3, h4⟩ := nextS_a (T := T) c (s + 1)
      have h5 : cS T (s + 1) = cS T s := by rw [cS_s, if_pos e]; rfl
      exact ⟨by omega, by omega, h3.trans h5, fun h => h4 (by omega)⟩
    · rw [if_neg e]
      exact ⟨Nat.le_refl _, by omega, rfl, fun _ => e⟩
/-- the sign of a number -/
theorem cS_at {T : zT} {k : Nat} : ∀ m, k < cS T m → ∃ s, s < m ∧ T 8 s ≠ -1 ∧ cS T s = k
  | 0, h => absurd h (Nat.not_lt_zero _)
  | m + 1, h => by
    rw [cS_s] at h
    by_cases e : T 8 m = -1
    · rw [if_pos e] at h
      obtain ⟨s, h1, h2, h3⟩ := cS_at m h
      exact ⟨s, by omega, h2, h3⟩
    · rw [if_neg e] at h
      by_cases e2 : k < cS T m
      · obtain ⟨s, h1, h2, h3⟩ := cS_at m e2
        exact ⟨s, by omega, h2, h3⟩
      · exact ⟨m, by omega, e, by omega⟩
def tfar (T : zT) (s : Nat) : Int32 := match prevS T (s + 1) with
  | none => 60 * ((Int32.ofNat s - T 0 3) + 1)
  | some q => T 8 q + 60 * (Int32.ofNat s - Int32.ofNat q)
def tnear (T : zT) (s : Nat) : Int32 := match prevS T (s + 1) with
  | none => 0
  | some q => T 8 q
def tbh (T : zT) (n s : Nat) : Nat := nextS T (n - (s + 1)) (s + 1)
def tspot (V T : zT) (n s : Nat) (most : Int32) : Int32 := if s < nn (T 0 3) then 0 else if most = 0 then (if tbh T n s < n then jmax (tnear T s) (T 8 (tbh T n s) - 60 * (Int32.ofNat (tbh T n s) - Int32.ofNat s)) else tnear T s) else jmin (tfar T s) (if tbh T n s < n then T 8 (tbh T n s) else tway 0 V (nn (V 0 0)))
def qSpot (G : zGl) (t s m : Int32) : Int32 := if isT G t = 0 then -1 else if tin s 0 (Int32.ofNat (nn (gV G 0 2)) - 1) = 0 then -1 else tspot (gV G) (gT G (nn t)) (nn (gV G 0 2)) (nn s) m
section
variable {E : zE} {d B w t nd ng n s : Nat} {S : zM} {I : Nat → Nat → Int32} {G : zGl} {V T : zT}
theorem lp_X0_spot_a {x1 x2 x3 : Int32} (hS : xTS S t) (hP : xP I t nd ng T) : ∀ c, c ≤ 2000 → ∀ r, zAt E d 62 75 [some (zr (some B)), some (zi x1), some (zi x2), some (zi x3), some (zr (some t)), some (zi (match prevS T c with
    | none => -1
    | some q => Int32.ofNat q)), none, none, none] [] (zwi S I) r → zAt E d 62 52 [some (zr (some B)), some (zi x1), some (zi x2), some (zi x3), some (zr (some t)), some (zi (Int32.ofNat c - 1)), none, none, none] [] (zwi S I) r := by
  obtain ⟨⟨q1, q2, q3, q4⟩, ⟨qi1, qi2, qi3⟩, ⟨qa1, qa2, qa3⟩, ⟨qs1, qs2, qs3⟩, ⟨qf1, qf2, qf3⟩, ⟨qt1, qt2, qt3⟩, q5⟩ := hS
  intro c
  induction c with
  | zero =>
    intro hc r hr
    have e : (Int32.ofNat 0 - 1 : Int32) = -1 := by decide
    have l : ((-1 : Int32) < 0) = True := eq_true (by decide)
    rw [e]
    refine zat_in zP_X0_spot zk_X0_spot_52 ?_
    simp (disch := omega) only [b_X0_spot_52, zif, zdr, zkb, mK_wi, mN_wi, mJ_wi, mI_wi, sI_wi, beq_self_eq_true, Bool.true_or, Bool.or_true, Bool.or_false, Bool.and_self, Bool.and_true, Bool.true_and, ↓reduceIte, ble_up0, i_cl, i_succ, zix_of, zfl_k, zup_k, zup_q, l]
    exact ev_bk hr
  | succ c ih =>
    intro hc r hr
    have l : (Int32.ofNat c < 0) = False := by
      rw [show (0 : Int32) = Int32.ofNat 0 from rfl, i_lt (by omega) (by omega)]
      exact eq_false (by omega)
    have x8 := hP.un.2.2.2.2.2.2.2.2.2 c (by omega)
    have em : Int32.ofNat c + (-1) = Int32.ofNat c - 1 := by rw [Int32.sub_eq_add_neg]
    rw [i_p1]
    unfold prevS at hr
    by_cases e : T 8 c = -1
    · rw [if_pos e] at hr
      have := ih (by omega) r hr
      rw [← em] at this
      refine zat_in zP_X0_spot zk_X0_spot_52 ?_
      simp (disch := omega) only [b_X0_spot_52, zif, zdr, zkb, mK_wi, mN_wi, mJ_wi, mI_wi, sI_wi, beq_self_eq_true, Bool.true_or, Bool.or_true, Bool.or_false, Bool.and_self, Bool.and_true, Bool.true_and, ↓reduceIte, ble_up0, i_cl, i_succ, zix_of, zfl_k, zup_k, zup_q, q1, q2, q3, q4, qi1, qi2, qi3, qa1, qa2, qa3, qs1, qs2, qs3, qf1, qf2, qf3, qt1, qt2, qt3, l, x8, eq_true e]
      exact ev_bk this
    · rw [if_neg e] at hr
      refine zat_in zP_X0_spot zk_X0_spot_52 ?_
      simp (disch := omega) only [b_X0_spot_52, zif, zdr, zkb, mK_wi, mN_wi, mJ_wi, mI_wi, sI_wi, beq_self_eq_true, Bool.true_or, Bool.or_true, Bool.or_false, Bool.and_self, Bool.and_true, Bool.true_and, ↓reduceIte, ble_up0, i_cl, i_succ, zix_of, zfl_k, zup_k, zup_q, q1, q2, q3, q4, qi1, qi2, qi3, qa1, qa2, qa3, qs1, qs2, qs3, qf1, qf2, qf3, qt1, qt2, qt3, l, x8, eq_false e]
      exact ev_bk hr
theorem lp_X0_spot_b {x1 x2 x3 x5 : Int32} (b0 : mK S B = 1) (b3 : mJ S B 3 = some (B + 5)) (w0 : mK S (B + 5) = 4) (hS : xTS S t) (hP : xP I t nd ng T) (e6 : I (B + 5) 6 = Int32.ofNat n) (hn : n ≤ 2000) : ∀ c k, k + c = n → ∀ r, zAt E d 62 110 [some (zr (some B)), some (zi x1), some (zi x2), some (zi x3), some (zr (some t)), some (zi x5), some (zi (Int32.ofNat (nextS T c k))), none, none] [] (zwi S I) r → zAt E d 62 80 [some (zr (some B)), some (zi x1), some (zi x2), some (zi x3), some (zr (some t)), some (zi x5), some (zi (Int32.ofNat k)), none, none] [] (zwi S I) r := by
  obtain ⟨⟨q1, q2, q3, q4⟩, ⟨qi1, qi2, qi3⟩, ⟨qa1, qa2, qa3⟩, ⟨qs1, qs2, qs3⟩, ⟨qf1, qf2, qf3⟩, ⟨qt1, qt2, qt3⟩, q5⟩ := hS
  intro c
  induction c with
  | zero =>
    intro k hk r hr
    obtain rfl : k = n := hk
    refine zat_in zP_X0_spot zk_X0_spot_80 ?_
    simp (disch := omega) only [b_X0_spot_80, zif, zdr, zkb, mK_wi, mN_wi, mJ_wi, mI_wi, sI_wi, beq_self_eq_true, Bool.true_or, Bool.or_true, Bool.or_false, Bool.and_self, Bool.and_true, Bool.true_and, ↓reduceIte, ble_up0, i_cl, i_succ, zix_of, zfl_k, zup_k, zup_q, b0, b3, w0, e6, i_le, Nat.le_refl]
    exact ev_bk hr
  | succ c ih =>
    intro k hk r hr
    have l : (n ≤ k) = False := eq_false (by omega)
    have x8 := hP.un.2.2.2.2.2.2.2.2.2 k (by omega)
    unfold nextS at hr
    by_cases e : T 8 k = -1
    · rw [if_pos e] at hr
      have := ih (k + 1) (by omega) r hr
      refine zat_in zP_X0_spot zk_X0_spot_80 ?_
      simp (disch := omega) only [b_X0_spot_80, zif, zdr, zkb, mK_wi, mN_wi, mJ_wi, mI_wi, sI_wi, beq_self_eq_true, Bool.true_or, Bool.or_true, Bool.or_false, Bool.and_self, Bool.and_true, Bool.true_and, ↓reduceIte, ble_up0, i_cl, i_succ, zix_of, zfl_k, zup_k, zup_q, q1, q2, q3, q4, qi1, qi2, qi3, qa1, qa2, qa3, qs1, qs2, qs3, qf1, qf2, qf3, qt1, qt2, qt3, b0, b3, w0, e6, i_le, l, x8, eq_true e]
      exact ev_bk this
    · rw [if_neg e] at hr
      refine zat_in zP_X0_spot zk_X0_spot_80 ?_
      simp (disch := omega) only [b_X0_spot_80, zif, zdr, zkb, mK_wi, mN_wi, mJ_wi, mI_wi, sI_wi, beq_self_eq_true, Bool.true_or, Bool.or_true, Bool.or_false, Bool.and_self, Bool.and_true, Bool.true_and, ↓reduceIte, ble_up0, i_cl, i_succ, zix_of, zfl_k, zup_k, zup_q, q1, q2, q3, q4, qi1, qi2, qi3, qa1, qa2, qa3, qs1, qs2, qs3, qf1, qf2, qf3, qt1, qt2, qt3, b0, b3, w0, e6, i_le, l, x8, eq_false e]
      exact ev_bk hr
/-- behind the two searches (x) -/
theorem X0_spot_c {x1 m : Int32} (b0 : mK S B = 1) (b3 : mJ S B 3 = some (B + 5)) (hW : xWS S (B + 5)) (hV : wP I (B + 5) V) (hl : sm (V 0 0) 12) (hS : xTS S t) (hP : xP I t nd ng T) (e6 : I (B + 5) 6 = Int32.ofNat n) (hn : n ≤ 2000) (hs : s < n) (hst : ¬ s < nn (T 0 3)) : zAt E (d + 1) 62 110 [some (zr (some B)), some (zi x1), some (zi (Int32.ofNat s)), some (zi m), some (zr (some t)), some (zi (match prevS T (s + 1) with
    | none => -1
    | some q => Int32.ofNat q)), some (zi (Int32.ofNat (tbh T n s))), none, none] [] (zwi S I) (Sum.inl (some (zi (tspot V T n s m))), zwi S I) := by
  have w0 := hW.1
  have hS' := hS
  obtain ⟨⟨q1, q2, q3, q4⟩, ⟨qi1, qi2, qi3⟩, ⟨qa1, qa2, qa3⟩, ⟨qs1, qs2, qs3⟩, ⟨qf1, qf2, qf3⟩, ⟨qt1, qt2, qt3⟩, q5⟩ := hS
  obtain ⟨na1, na2, na3, na4⟩ := nextS_a (T := T) (n - (s + 1)) (s + 1)
  have hb : tbh T n s ≤ n := by
    show nextS T (n - (s + 1)) (s + 1) ≤ n
    omega
  have x8 : ∀ j, j < 2000 → I (t + 4) j = T 8 j := hP.un.2.2.2.2.2.2.2.2.2
  have x3 := hP.un.1.2.2.2.1
  have ct := sp_X3_trail (E := E) (d := d) hW hV hl
  have n1 : ((1 : Int32) = 0) = False := eq_false (by decide)
  have hprev : ∀ q, prevS T (s + 1) = some q → q < 2000 := fun q hq => by
    have := (prevS_s _ _ hq).1
    omega
  have l1 : ((0 : Int32) ≤ -1) = False := eq_false (by decide)
  have l2 : ∀ q, q < 2000 → ((0 : Int32) ≤ Int32.ofNat q) = True := fun q hq => by
    rw [show (0 : Int32) = Int32.ofNat 0 from rfl, i_le (by omega) (by omega)]
    exact eq_true (by omega)
  have zz : ∀ q, q < 2000 → zix (Int32.ofNat q) 2000 = true := fun q hq => zix_of hq (by omega)
  unfold tspot
  rw [if_neg hst]
  generalize tbh T n s = b at *
  have to127 : ∀ (v5 : Int32) (r : zR), zAt E (d + 1) 62 127 [some (zr (some B)), some (zi x1), some (zi (Int32.ofNat s)), some (zi m), some (zr (some t)), some (zi v5), some (zi (Int32.ofNat b)), none, none] [zi (if b < n then 1 else 0)] (zwi S I) r → zAt E (d + 1) 62 110 [some (zr (some B)), some (zi x1), some (zi (Int32.ofNat s)), some (zi m), some (zr (some t)), some (zi v5), some (zi (Int32.ofNat b)), none, none] [] (zwi S I) r := by
    intro v5 r hr
    by_cases q : n ≤ b
    · rw [if_neg (by omega)] at hr
      refine zat_in zP_X0_spot zk_X0_spot_110 ?_
      simp (disch := omega) only [b_X0_spot_110, zif, zdr, zkb, mK_wi, mN_wi, mJ_wi, mI_wi, sI_wi, beq_self_eq_true, Bool.true_or, Bool.or_true, Bool.or_false, Bool.and_self, Bool.and_true, Bool.true_and, ↓reduceIte, ble_up0, i_cl, i_succ, zix_of, zfl_k, zup_k, zup_q, b0, b3, w0, e6, i_le, eq_true q]
      refine ev_bk ?_
      refine zat_in zP_X0_spot zk_X0_spot_126 ?_
      simp only [b_X0_spot_126]
      refine ev_tl zP_X0_spot zk_X0_spot_127 ?_
      exact hr
    · rw [if_pos (by omega)] at hr
      refine zat_in zP_X0_spot zk_X0_spot_110 ?_
      simp (disch := omega) only [b_X0_spot_110, zif, zdr, zkb, mK_wi, mN_wi, mJ_wi, mI_wi, sI_wi, beq_self_eq_true, Bool.true_or, Bool.or_true, Bool.or_false, Bool.and_self, Bool.and_true, Bool.true_and, ↓reduceIte, ble_up0, i_cl, i_succ, zix_of, zfl_k, zup_k, zup_q, b0, b3, w0, e6, i_le, eq_false q]
      exact ev_bk hr
  refine to127 _ _ ?_
  unfold tfar tnear
  by_cases hm : m = 0
  · rw [if_pos hm]
    have e217 : ∀ (v5 nr : Int32), zAt E (d + 1) 62 217 [some (zr (some B)), some (zi x1), some (zi (Int32.ofNat s)), some (zi m), some (zr (some t)), some (zi v5), some (zi (Int32.ofNat b)), some (zi (if b < n then 1 else 0)), none] [zi nr] (zwi S I) (Sum.inl (some (zi (if b < n then jmax nr (T 8 b - 60 * (Int32.ofNat b - Int32.ofNat s)) else nr))), zwi S I) := by
      intro v5 nr
      by_cases q : b < n
      · rw [if_pos q, if_pos q]
        refine zat_in zP_X0_spot zk_X0_spot_217 ?_
        simp (disch := omega) only [b_X0_spot_217, zif, zdr, zkb, mK_wi, mN_wi, mJ_wi, mI_wi, sI_wi, beq_self_eq_true, Bool.true_or, Bool.or_true, Bool.or_false, Bool.and_self, Bool.and_true, Bool.true_and, ↓reduceIte, ble_up0, i_cl, i_succ, zix_of, zfl_k, zup_k, zup_q, q1, q2, q3, q4, qi1, qi2, qi3, qa1, qa2, qa3, qs1, qs2, qs3, qf1, qf2, qf3, qt1, qt2, qt3, n1, x8, zz]
        refine ev_ci (sp_max _ _) ?_
        refine ev_bk ?_
        refine zat_in zP_X0_spot zk_X0_spot_250 ?_; simp (disch := omega) only [b_X0_spot_250, zif, zdr, zkb, mK_wi, mN_wi, mJ_wi, mI_wi, sI_wi, beq_self_eq_true, Bool.true_or, Bool.or_true, Bool.or_false, Bool.and_self, Bool.and_true, Bool.true_and, ↓reduceIte, ble_up0, i_cl, i_succ, zix_of, zfl_k, zup_k, zup_q]
        exact ev_r
      · rw [if_neg q, if_neg q]
        refine zat_in zP_X0_spot zk_X0_spot_217 ?_
        simp (disch := omega) only [b_X0_spot_217, zif, zdr, zkb, mK_wi, mN_wi, mJ_wi, mI_wi, sI_wi, beq_self_eq_true, Bool.true_or, Bool.or_true, Bool.or_false, Bool.and_self, Bool.and_true, Bool.true_and, ↓reduceIte, ble_up0, i_cl, i_succ, zix_of, zfl_k, zup_k, zup_q]
        refine ev_bk ?_
        refine zat_in zP_X0_spot zk_X0_spot_248 ?_
        simp only [b_X0_spot_248]
        refine ev_tl zP_X0_spot zk_X0_spot_250 ?_
        refine zat_in zP_X0_spot zk_X0_spot_250 ?_; simp (disch := omega) only [b_X0_spot_250, zif, zdr, zkb, mK_wi, mN_wi, mJ_wi, mI_wi, sI_wi, beq_self_eq_true, Bool.true_or, Bool.or_true, Bool.or_false, Bool.and_self, Bool.and_true, Bool.true_and, ↓reduceIte, ble_up0, i_cl, i_succ, zix_of, zfl_k, zup_k, zup_q]
        exact ev_r
    refine zat_in zP_X0_spot zk_X0_spot_127 ?_
    simp (disch := omega) only [b_X0_spot_127, zif, zdr, zkb, mK_wi, mN_wi, mJ_wi, mI_wi, sI_wi, beq_self_eq_true, Bool.true_or, Bool.or_true, Bool.or_false, Bool.and_self, Bool.and_true, Bool.true_and, ↓reduceIte, ble_up0, i_cl, i_succ, zix_of, zfl_k, zup_k, zup_q, eq_true hm]
    refine ev_bk ?_
    cases hp : prevS T (s + 1) with
    | none =>
      refine zat_in zP_X0_spot zk_X0_spot_200 ?_
      simp (disch := omega) only [b_X0_spot_200, zif, zdr, zkb, mK_wi, mN_wi, mJ_wi, mI_wi, sI_wi, beq_self_eq_true, Bool.true_or, Bool.or_true, Bool.or_false, Bool.and_self, Bool.and_true, Bool.true_and, ↓reduceIte, ble_up0, i_cl, i_succ, zix_of, zfl_k, zup_k, zup_q, l1]
      exact ev_bk (e217 _ _)
    | some q =>
      have hq := hprev q hp
      refine zat_in zP_X0_spot zk_X0_spot_200 ?_
      simp (disch := omega) only [b_X0_spot_200, zif, zdr, zkb, mK_wi, mN_wi, mJ_wi, mI_wi, sI_wi, beq_self_eq_true, Bool.true_or, Bool.or_true, Bool.or_false, Bool.and_self, Bool.and_true, Bool.true_and, ↓reduceIte, ble_up0, i_cl, i_succ, zix_of, zfl_k, zup_k, zup_q, l2 q hq]
      refine ev_bk ?_
      refine zat_in zP_X0_spot zk_X0_spot_209 ?_
      simp (disch := omega) only [b_X0_spot_209, zif, zdr, zkb, mK_wi, mN_wi, mJ_wi, mI_wi, sI_wi, beq_self_eq_true, Bool.true_or, Bool.or_true, Bool.or_false, Bool.and_self, Bool.and_true, Bool.true_and, ↓reduceIte, ble_up0, i_cl, i_succ, zix_of, zfl_k, zup_k, zup_q, q1, q2, q3, q4, qi1, qi2, qi3, qa1, qa2, qa3, qs1, qs2, qs3, qf1, qf2, qf3, qt1, qt2, qt3, x8, zz]
      refine ev_tl zP_X0_spot zk_X0_spot_217 ?_
      exact e217 _ _
  · rw [if_neg hm]
    have e169 : ∀ (v5 fr : Int32), zAt E (d + 1) 62 169 [some (zr (some B)), some (zi x1), some (zi (Int32.ofNat s)), some (zi m), some (zr (some t)), some (zi v5), some (zi (Int32.ofNat b)), some (zi (if b < n then 1 else 0)), none] [zi fr] (zwi S I) (Sum.inl (some (zi (jmin fr (if b < n then T 8 b else tway 0 V (nn (V 0 0)))))), zwi S I) := by
      intro v5 fr
      by_cases q : b < n
      · rw [if_pos q, if_pos q]
        refine zat_in zP_X0_spot zk_X0_spot_169 ?_
        simp (disch := omega) only [b_X0_spot_169, zif, zdr, zkb, mK_wi, mN_wi, mJ_wi, mI_wi, sI_wi, beq_self_eq_true, Bool.true_or, Bool.or_true, Bool.or_false, Bool.and_self, Bool.and_true, Bool.true_and, ↓reduceIte, ble_up0, i_cl, i_succ, zix_of, zfl_k, zup_k, zup_q, q1, q2, q3, q4, qi1, qi2, qi3, qa1, qa2, qa3, qs1, qs2, qs3, qf1, qf2, qf3, qt1, qt2, qt3, n1, x8, zz]
        refine ev_bk ?_
        refine zat_in zP_X0_spot zk_X0_spot_196 ?_
        simp only [b_X0_spot_196]
        refine ev_ci (sp_min _ _) ev_r
      · rw [if_neg q, if_neg q]
        refine zat_in zP_X0_spot zk_X0_spot_169 ?_
        simp (disch := omega) only [b_X0_spot_169, zif, zdr, zkb, mK_wi, mN_wi, mJ_wi, mI_wi, sI_wi, beq_self_eq_true, Bool.true_or, Bool.or_true, Bool.or_false, Bool.and_self, Bool.and_true, Bool.true_and, ↓reduceIte, ble_up0, i_cl, i_succ, zix_of, zfl_k, zup_k, zup_q]
        refine ev_bk ?_
        refine zat_in zP_X0_spot zk_X0_spot_189 ?_
        simp (disch := omega) only [b_X0_spot_189, zif, zdr, zkb, mK_wi, mN_wi, mJ_wi, mI_wi, sI_wi, beq_self_eq_true, Bool.true_or, Bool.or_true, Bool.or_false, Bool.and_self, Bool.and_true, Bool.true_and, ↓reduceIte, ble_up0, i_cl, i_succ, zix_of, zfl_k, zup_k, zup_q, b0, b3, w0]
        refine ev_ci ct ?_
        refine ev_tl zP_X0_spot zk_X0_spot_196 ?_
        refine zat_in zP_X0_spot zk_X0_spot_196 ?_
        simp only [b_X0_spot_196]
        refine ev_ci (sp_min _ _) ev_r
    cases hp : prevS T (s + 1) with
    | none =>
      refine zat_in zP_X0_spot zk_X0_spot_127 ?_
      simp (disch := omega) only [b_X0_spot_127, zif, zdr, zkb, mK_wi, mN_wi, mJ_wi, mI_wi, sI_wi, beq_self_eq_true, Bool.true_or, Bool.or_true, Bool.or_false, Bool.and_self, Bool.and_true, Bool.true_and, ↓reduceIte, ble_up0, i_cl, i_succ, zix_of, zfl_k, zup_k, zup_q, q1, q2, q3, q4, qi1, qi2, qi3, qa1, qa2, qa3, qs1, qs2, qs3, qf1, qf2, qf3, qt1, qt2, qt3, eq_false hm, l1, x3]
      exact ev_bk (e169 _ _)
    | some q =>
      have hq := hprev q hp
      refine zat_in zP_X0_spot zk_X0_spot_127 ?_
      simp (disch := omega) only [b_X0_spot_127, zif, zdr, zkb, mK_wi, mN_wi, mJ_wi, mI_wi, sI_wi, beq_self_eq_true, Bool.true_or, Bool.or_true, Bool.or_false, Bool.and_self, Bool.and_true, Bool.true_and, ↓reduceIte, ble_up0, i_cl, i_succ, zix_of, zfl_k, zup_k, zup_q, q1, q2, q3, q4, qi1, qi2, qi3, qa1, qa2, qa3, qs1, qs2, qs3, qf1, qf2, qf3, qt1, qt2, qt3, eq_false hm, l2 q hq]
      refine ev_bk ?_
      refine zat_in zP_X0_spot zk_X0_spot_153 ?_
      simp (disch := omega) only [b_X0_spot_153, zif, zdr, zkb, mK_wi, mN_wi, mJ_wi, mI_wi, sI_wi, beq_self_eq_true, Bool.true_or, Bool.or_true, Bool.or_false, Bool.and_self, Bool.and_true, Bool.true_and, ↓reduceIte, ble_up0, i_cl, i_succ, zix_of, zfl_k, zup_k, zup_q, q1, q2, q3, q4, qi1, qi2, qi3, qa1, qa2, qa3, qs1, qs2, qs3, qf1, qf2, qf3, qt1, qt2, qt3, x8, zz]
      refine ev_tl zP_X0_spot zk_X0_spot_169 ?_
      exact e169 _ _
end
