/-! ===== worlds: teams of a world; a world becomes another one (x) ===== -/
set_option maxRecDepth 100000
def nn (x : Int32) : Nat := x.toNatClampNeg
def sm (x : Int32) (n : Nat) : Prop := x = Int32.ofNat (nn x) ∧ nn x ≤ n
theorem nn_of {a : Nat} (h : a < 2147483648) : nn (Int32.ofNat a) = a := i_cl h
theorem sm_of {a n : Nat} (h : a ≤ n) (h2 : a < 2147483648) : sm (Int32.ofNat a) n := ⟨by rw [nn_of h2], by rw [nn_of h2]; exact h⟩
/-- signs at steps below n -/
def cS (T : zT) : Nat → Nat
  | 0 => 0
  | n + 1 => cS T n + if T 8 n = -1 then 0 else 1
theorem cS_s {T : zT} {n : Nat} : cS T (n + 1) = cS T n + if T 8 n = -1 then 0 else 1 := rfl
theorem cS_le {T : zT} : ∀ n, cS T n ≤ n
  | 0 => Nat.le_refl 0
  | n + 1 => by
    have := cS_le (T := T) n
    unfold cS
    split <;> omega
theorem cS_mono {T : zT} {a : Nat} : ∀ c, cS T a ≤ cS T (a + c)
  | 0 => Nat.le_refl _
  | c + 1 => by
    have := cS_mono (T := T) (a := a) c
    show cS T a ≤ cS T (a + c + 1)
    rw [cS_s]
    omega
theorem cS_lt {T : zT} {a n : Nat} (h : a < n) (hs : T 8 a ≠ -1) : cS T a < cS T n := by
  obtain ⟨c, rfl⟩ : ∃ c, n = a + 1 + c := ⟨n - (a + 1), by omega⟩
  have h1 := cS_mono (T := T) (a := a + 1) c
  have h2 : cS T (a + 1) = cS T a + 1 := by
    show cS T a + (if T 8 a = -1 then 0 else 1) = _
    rw [if_neg hs]
  omega
def xTP (I : Nat → Nat → Int32) (t : Nat) (T : zT) : Prop := xP I t (nn (T 0 0)) (nn (T 0 13)) T
def mSg (I : Nat → Nat → Int32) (t : Nat) (T : zT) : Prop := ∀ s, s < 2000 → T 8 s ≠ -1 → I (t + 6) (cS T s) = Int32.ofNat s ∧ I (t + 7) (cS T s) = T 8 s
def mTP (I : Nat → Nat → Int32) (t : Nat) (T : zT) : Prop := mP I t (nn (T 0 0)) (nn (T 0 13)) T ∧ I t 1 = tload T (nn (T 0 0)) ∧ mSg I t T
def tOK (T : zT) : Prop := sm (T 0 0) 16 ∧ sm (T 0 13) 4 ∧ T 0 12 = Int32.ofNat (cS T 2000)
def xWT (S : zM) (w : Nat) : Prop := xWS S w ∧ (mK S (w + 4) = 106 ∧ mN S (w + 4) = 6 ∧ mJ S w 3 = some (w + 4)) ∧ ∀ k, k < 6 → xTS S (w + 5 + 23 * k) ∧ mJ S (w + 4) k = some (w + 5 + 23 * k)
def mWT (S : zM) (w : Nat) : Prop := mWS S w ∧ (mK S (w + 4) = 111 ∧ mN S (w + 4) = 6 ∧ mJ S w 11 = some (w + 4)) ∧ ∀ k, k < 6 → mTS S (w + 28 + 20 * k) ∧ mJ S (w + 4) k = some (w + 28 + 20 * k)
def mKT (S : zM) (w : Nat) : Prop := (mK S (w + 5) = 101 ∧ mN S (w + 5) = 12 ∧ mJ S w 16 = some (w + 5)) ∧ (mK S (w + 6) = 101 ∧ mN S (w + 6) = 12 ∧ mJ S w 17 = some (w + 6)) ∧ (mK S (w + 7) = 101 ∧ mN S (w + 7) = 334 ∧ mJ S w 18 = some (w + 7)) ∧ (mK S (w + 8) = 111 ∧ mN S (w + 8) = 6 ∧ mJ S w 19 = some (w + 8)) ∧ ∀ k, k < 6 → mTS S (w + 38 + 20 * k) ∧ mJ S (w + 8) k = some (w + 38 + 20 * k)
def kP (I : Nat → Nat → Int32) (w : Nat) (V : zT) : Prop := (∀ j, j < 4 → I w (12 + j) = V 0 j) ∧ (∀ j, j < 12 → I (w + 5) j = V 1 j) ∧ (∀ j, j < 12 → I (w + 6) j = V 2 j) ∧ ∀ j, j < 334 → I (w + 7) j = V 3 j
def xW (I : Nat → Nat → Int32) (w : Nat) (V : zT) (TT : Nat → zT) : Prop := wP I w V ∧ ∀ k, k < nn (V 0 1) → xTP I (w + 5 + 23 * k) (TT k)
def mW (I : Nat → Nat → Int32) (w : Nat) (V : zT) (TT : Nat → zT) : Prop := wP I w V ∧ ∀ k, k < nn (V 0 1) → mTP I (w + 28 + 20 * k) (TT k)
def mKW (I : Nat → Nat → Int32) (w : Nat) (V : zT) (TT : Nat → zT) : Prop := kP I w V ∧ ∀ k, k < nn (V 0 1) → mTP I (w + 38 + 20 * k) (TT k)
theorem row4 {P : Nat → Prop} (h0 : P 0) (h1 : P 1) (h2 : P 2) (h3 : P 3) {j : Nat} (hj : j < 4) : P j := by
  obtain rfl | rfl | rfl | rfl : j = 0 ∨ j = 1 ∨ j = 2 ∨ j = 3 := by omega
  all_goals assumption
theorem wP.mk {I : Nat → Nat → Int32} {w : Nat} {V : zT} (h0 : I w 4 = V 0 0) (h1 : I w 5 = V 0 1) (h2 : I w 6 = V 0 2) (h3 : I w 7 = V 0 3) (r1 : ∀ j, j < 12 → I (w + 1) j = V 1 j) (r2 : ∀ j, j < 12 → I (w + 2) j = V 2 j) (r3 : ∀ j, j < 334 → I (w + 3) j = V 3 j) : wP I w V :=
  ⟨fun j hj => row4 (P := fun j => I w (4 + j) = V 0 j) h0 h1 h2 h3 hj, r1, r2, r3⟩
theorem wP.un {I : Nat → Nat → Int32} {w : Nat} {V : zT} (h : wP I w V) : (I w 4 = V 0 0 ∧ I w 5 = V 0 1 ∧ I w 6 = V 0 2 ∧ I w 7 = V 0 3) ∧ (∀ j, j < 12 → I (w + 1) j = V 1 j) ∧ (∀ j, j < 12 → I (w + 2) j = V 2 j) ∧ ∀ j, j < 334 → I (w + 3) j = V 3 j :=
  ⟨⟨h.1 0 (by omega), h.1 1 (by omega), h.1 2 (by omega), h.1 3 (by omega)⟩, h.2⟩
theorem kP.mk {I : Nat → Nat → Int32} {w : Nat} {V : zT} (h0 : I w 12 = V 0 0) (h1 : I w 13 = V 0 1) (h2 : I w 14 = V 0 2) (h3 : I w 15 = V 0 3) (r1 : ∀ j, j < 12 → I (w + 5) j = V 1 j) (r2 : ∀ j, j < 12 → I (w + 6) j = V 2 j) (r3 : ∀ j, j < 334 → I (w + 7) j = V 3 j) : kP I w V :=
  ⟨fun j hj => row4 (P := fun j => I w (12 + j) = V 0 j) h0 h1 h2 h3 hj, r1, r2, r3⟩
theorem kP.un {I : Nat → Nat → Int32} {w : Nat} {V : zT} (h : kP I w V) : (I w 12 = V 0 0 ∧ I w 13 = V 0 1 ∧ I w 14 = V 0 2 ∧ I w 15 = V 0 3) ∧ (∀ j, j < 12 → I (w + 5) j = V 1 j) ∧ (∀ j, j < 12 → I (w + 6) j = V 2 j) ∧ ∀ j, j < 334 → I (w + 7) j = V 3 j :=
  ⟨⟨h.1 0 (by omega), h.1 1 (by omega), h.1 2 (by omega), h.1 3 (by omega)⟩, h.2⟩
theorem xTP.fr {I J : Nat → Nat → Int32} {t : Nat} {T : zT} (h : xTP I t T) (hn : sm (T 0 0) 16) (hf : ∀ a k, t ≤ a → a < t + 23 → J a k = I a k) : xTP J t T := xP.fr h hn.2 hf
theorem mSg.fr {I J : Nat → Nat → Int32} {t : Nat} {T : zT} (h : mSg I t T) (hf : ∀ a k, t ≤ a → a < t + 10 → J a k = I a k) : mSg J t T := fun s h1 h2 =>
  ⟨(hf _ _ (by omega) (by omega)).trans (h s h1 h2).1, (hf _ _ (by omega) (by omega)).trans (h s h1 h2).2⟩
theorem mTP.fr {I J : Nat → Nat → Int32} {t : Nat} {T : zT} (h : mTP I t T) (hf : ∀ a k, t ≤ a → a < t + 10 → J a k = I a k) : mTP J t T := ⟨h.1.fr hf, (hf _ _ (by omega) (by omega)).trans h.2.1, h.2.2.fr hf⟩
theorem kP.fr {I J : Nat → Nat → Int32} {w : Nat} {V : zT} (h : kP I w V) (hf : ∀ a k, w ≤ a → a < w + 148 → J a k = I a k) : kP J w V :=
  ⟨fun j hj => (hf _ _ (by omega) (by omega)).trans (h.1 j hj), fun j hj => (hf _ _ (by omega) (by omega)).trans (h.2.1 j hj), fun j hj => (hf _ _ (by omega) (by omega)).trans (h.2.2.1 j hj), fun j hj => (hf _ _ (by omega) (by omega)).trans (h.2.2.2 j hj)⟩
theorem xW.fr {I J : Nat → Nat → Int32} {w : Nat} {V : zT} {TT : Nat → zT} (h : xW I w V TT) (h1 : sm (V 0 1) 6) (ht : ∀ k, k < nn (V 0 1) → tOK (TT k)) (hf : ∀ a k, w ≤ a → a < w + 143 → J a k = I a k) : xW J w V TT :=
  ⟨h.1.fr (fun a k h1 h2 => hf a k (by omega) (by omega)), fun k hk => (h.2 k hk).fr (ht k hk).1 (fun a j h3 h4 => hf a j (by omega) (by have := h1.2; omega))⟩
theorem mW.fr {I J : Nat → Nat → Int32} {w : Nat} {V : zT} {TT : Nat → zT} (h : mW I w V TT) (h1 : sm (V 0 1) 6) (hf : ∀ a k, w ≤ a → a < w + 148 → J a k = I a k) : mW J w V TT :=
  ⟨h.1.fr (fun a k h1 h2 => hf a k (by omega) (by omega)), fun k hk => (h.2 k hk).fr (fun a j h3 h4 => hf a j (by omega) (by have := h1.2; omega))⟩
theorem mKW.fr {I J : Nat → Nat → Int32} {w : Nat} {V : zT} {TT : Nat → zT} (h : mKW I w V TT) (h1 : sm (V 0 1) 6) (hf : ∀ a k, w ≤ a → a < w + 148 → J a k = I a k) : mKW J w V TT :=
  ⟨h.1.fr hf, fun k hk => (h.2 k hk).fr (fun a j h3 h4 => hf a j (by omega) (by have := h1.2; omega))⟩
section
variable {E : zE} {d w u nt : Nat} {S : zM} {I J : Nat → Nat → Int32} {V : zT} {TT : Nat → zT}
theorem lp_X3_become (hB : E.1 ≤ w) (hBu : E.1 ≤ u) (hS : xWT S w) (hU : xWT S u) (hd : w + 143 ≤ u ∨ u + 143 ≤ w) (hnt : nt ≤ 6) (hT : ∀ k, k < nt → tOK (TT k)) : ∀ c k : Nat, k + c = nt → ∀ I : Nat → Nat → Int32, I w 5 = Int32.ofNat nt → (∀ j, j < nt → xTP I (u + 5 + 23 * j) (TT j)) → ∃ I', zAt E (d + 4) 90 80 [some (zr (some w)), some (zr (some u)), some (zi (Int32.ofNat k))] [] (zwi S I) (Sum.inl none, zwi S I') ∧ (∀ j, k ≤ j → j < nt → xTP I' (w + 5 + 23 * j) (TT j)) ∧ zfI (w + 5 + 23 * k) (w + 143) I I' := by
  obtain ⟨⟨w0, -⟩, ⟨w1, w2, w3⟩, w4⟩ := hS
  obtain ⟨⟨u0, -⟩, ⟨u1, u2, u3⟩, u4⟩ := hU
  intro c
  induction c with
  | zero =>
    intro k hk I e0 hJ
    obtain rfl : k = nt := hk
    refine ⟨I, ?_, fun j h1 h2 => by omega, zfI.rf⟩
    refine zat_in zP_X3_become zk_X3_become_80 ?_
    simp (disch := omega) only [b_X3_become_80, zif, zdr, zkb, mK_wi, mN_wi, mJ_wi, mI_wi, sI_wi, beq_self_eq_true, Bool.true_or, Bool.or_true, Bool.or_false, Bool.and_self, Bool.and_true, Bool.true_and, ↓reduceIte, w0, e0, i_le, Nat.le_refl]
    refine ev_bk ?_
    refine zat_in zP_X3_become zk_X3_become_109 ?_; simp (disch := omega) only [b_X3_become_109, zif, zdr, zkb, mK_wi, mN_wi, mJ_wi, mI_wi, sI_wi, beq_self_eq_true, Bool.true_or, Bool.or_true, Bool.or_false, Bool.and_self, Bool.and_true, Bool.true_and, ↓reduceIte]
    exact ev_r
  | succ c ih =>
    intro k hk I e0 hJ
    have hl : (nt ≤ k) = False := eq_false (by omega)
    obtain ⟨g1, g2⟩ := w4 k (by omega)
    obtain ⟨g3, g4⟩ := u4 k (by omega)
    obtain ⟨t1, t2, -⟩ := hT k (by omega)
    obtain ⟨I1, a1, b1, c1⟩ := sp_X4_become (E := E) (d := d) (t := w + 5 + 23 * k) (u := u + 5 + 23 * k) (by omega) (by omega) g1 g3 t1.2 t2.2 (by omega) (hJ k (by omega)) t1.1
    obtain ⟨I2, a2, b2, c2⟩ := ih (k + 1) (by omega) I1 (by rw [c1 _ _ (by omega)]; exact e0) (fun j hj => (hJ j hj).fr (hT j hj).1 (fun a i h1 h2 => c1 a i (by omega)))
    refine ⟨I2, ?_, fun j h1 h2 => ?_, (c1.wide (by omega) (by omega)).tr (c2.wide (by omega) (by omega))⟩
    · refine zat_in zP_X3_become zk_X3_become_80 ?_; simp (disch := omega) only [b_X3_become_80, zif, zdr, zkb, mK_wi, mN_wi, mJ_wi, mI_wi, sI_wi, beq_self_eq_true, Bool.true_or, Bool.or_true, Bool.or_false, Bool.and_self, Bool.and_true, Bool.true_and, ↓reduceIte, ble_up0, i_cl, i_succ, zix_of, zfl_k, zup_k, zup_q, w0, w1, w2, w3, u0, u1, u2, u3, e0, i_le, hl, g2, g4, g1.1.1]
      exact ev_cv a1 (ev_bk a2)
    · by_cases e : j = k
      · subst e
        exact xTP.fr b1 t1 (fun a i h3 h4 => c2 a i (by omega))
      · exact b2 j (by omega) h2
theorem sp_X3_become (hB : E.1 ≤ w) (hBu : E.1 ≤ u) (hS : xWT S w) (hU : xWT S u) (hd : w + 143 ≤ u ∨ u + 143 ≤ w) (hnt : sm (V 0 1) 6) (hT : ∀ k, k < nn (V 0 1) → tOK (TT k)) (hP : xW I u V TT) : ∃ I', zCl E (d + 4) 90 [zr (some w), zr (some u)] (zwi S I) (Sum.inl none, zwi S I') ∧ xW I' w V TT ∧ zfI w (w + 143) I I' := by
  have hnt1 := hnt.1
  have hnt2 := hnt.2
  have hS' := hS
  have hU' := hU
  obtain ⟨⟨w0, ⟨wa1, wa2, wa3⟩, ⟨wb1, wb2, wb3⟩, ⟨wc1, wc2, wc3⟩⟩, ⟨w1, w2, w3⟩, w4⟩ := hS
  obtain ⟨⟨u0, ⟨ua1, ua2, ua3⟩, ⟨ub1, ub2, ub3⟩, ⟨uc1, uc2, uc3⟩⟩, ⟨u1, u2, u3⟩, u4⟩ := hU
  obtain ⟨hV, hTT⟩ := hP
  have hV' := hV
  obtain ⟨⟨v0, v1, v2, v3⟩, r1, r2, r3⟩ := hV.un
  have g0 : ((0 : Int32) ≤ 0) = True := eq_true (by decide)
  have g2 : ((0 : Int32) ≤ 12) = True := eq_true (by decide)
  have g3 : ((0 : Int32) ≤ 334) = True := eq_true (by decide)
  have k0 : Int32.toNatClampNeg 0 = 0 := by decide
  have k2 : Int32.toNatClampNeg 12 = 12 := by decide
  have k3 : Int32.toNatClampNeg 334 = 334 := by decide
  have key : ∃ I1, (∀ r, zAt E (d + 4) 90 80 [some (zr (some w)), some (zr (some u)), some (zi (Int32.ofNat 0))] [] (zwi S I1) r → zCl E (d + 4) 90 [zr (some w), zr (some u)] (zwi S I) r) ∧ wP I1 w V ∧ zfI w (w + 5) I I1 := by
    refine ⟨?w, ?a, ?b, ?c⟩
    case a =>
      intro r hr
      refine zcl_in' zP_X3_become ?_; rw [zn_2_3]
      refine zat_in zP_X3_become zk_X3_become_0 ?_
      simp (disch := omega) only [b_X3_become_0, zc_X3_become_30, b_X3_become_30, zc_X3_become_54, b_X3_become_54, zc_X3_become_78, b_X3_become_78, zif, zdr, zkb, mK_wi, mN_wi, mJ_wi, mI_wi, sI_wi, beq_self_eq_true, Bool.true_or, Bool.or_true, Bool.or_false, Bool.and_self, Bool.and_true, Bool.true_and, ↓reduceIte, ble_up0, i_cl, i_succ, zix_of, zfl_k, zup_k, zup_q, w0, wa1, wa2, wa3, wb1, wb2, wb3, wc1, wc2, wc3, u0, ua1, ua2, ua3, ub1, ub2, ub3, uc1, uc2, uc3, g0, g2, g3, k0, k2, k3, zcI_wi, Nat.zero_add, Nat.sub_zero, Nat.le_refl, decide_true]
      refine ev_tl zP_X3_become zk_X3_become_80 ?_
      exact hr
    case b =>
      refine wP.mk ?_ ?_ ?_ ?_ (fun j hj => ?_) (fun j hj => ?_) (fun j hj => ?_)
      all_goals (simp (disch := omega) only [zfl_k, zfl_q, zup_k, zup_q, v0, v1, v2, v3, r1, r2, r3])
    case c =>
      repeat' (first | exact zfI.rf | refine zfI.put ?_ (by omega) (by omega) | refine zfI.fl ?_ (by omega) (by omega))
  obtain ⟨I1, a1, b1, c1⟩ := key
  obtain ⟨I2, a2, b2, c2⟩ := lp_X3_become (E := E) (d := d) hB hBu hS' hU' hd hnt2 hT (nn (V 0 1)) 0 (by omega) I1 (b1.un.1.2.1.trans hnt1) (fun j hj => (hTT j hj).fr (hT j hj).1 (fun a i h1 h2 => c1 a i (by omega)))
  exact ⟨I2, a1 _ a2, ⟨b1.fr (fun a k h1 h2 => c2 a k (by omega)), fun k hk => b2 k (by omega) hk⟩, (c1.wide (by omega) (by omega)).tr (c2.wide (by omega) (by omega))⟩
end
