/-! ===== each call of the law, both sides: printed by gen/loop.py ===== -/
set_option maxRecDepth 100000
theorem i_ad2 {a : Nat} : Int32.ofNat a + 2 = Int32.ofNat (a + 2) := i_add (b := 2)
theorem i_ad3 {a : Nat} : Int32.ofNat a + 3 = Int32.ofNat (a + 3) := i_add (b := 3)
theorem i_ad4 {a : Nat} : Int32.ofNat a + 4 = Int32.ofNat (a + 4) := i_add (b := 4)
theorem i_ad5 {a : Nat} : Int32.ofNat a + 5 = Int32.ofNat (a + 5) := i_add (b := 5)
theorem i_ad6 {a : Nat} : Int32.ofNat a + 6 = Int32.ofNat (a + 6) := i_add (b := 6)
section
variable {E : zE} {B w b n j c u : Nat} {S : zM} {I : Nat → Nat → Int32} {G : zGl} {s : Nat → Int32}
theorem xo_leg (hB : E.1 ≤ B) (hi : IG G) (x y : Int32) : XO E B 29 [zi x, zi y] G (oLeg G x y).1 (oLeg G x y).2 := XO.op (fun S I h => sp_X0_leg (d := 10) hB h hi x y)
theorem mo_leg (hB : E.1 ≤ w) (hi : IG G) (x y : Int32) : MO E w 119 [zi x, zi y] G (oLeg G x y).1 (oLeg G x y).2 := MO.op (fun S I h => mp_leg (d := 10) hB h hi x y)
theorem xo_cold (hB : E.1 ≤ B) (hi : IG G) (x y z : Int32) : XO E B 34 [zi x, zi y, zi z] G (oCold G x y z).1 (oCold G x y z).2 := XO.op (fun S I h => sp_X0_cold (d := 12) hB h hi x y z)
theorem mo_cold (hB : E.1 ≤ w) (hi : IG G) (x y z : Int32) : MO E w 123 [zi x, zi y, zi z] G (oCold G x y z).1 (oCold G x y z).2 := MO.op (fun S I h => mp_cold (d := 12) hB h hi x y z)
theorem xo_feed (hB : E.1 ≤ B) (hi : IG G) (x y z p q : Int32) : XO E B 35 [zi x, zi y, zi z, zi p, zi q] G (oFeed G x y z p q).1 (oFeed G x y z p q).2 := XO.op (fun S I h => sp_X0_feed (dd := 12) hB h hi x y z p q)
theorem mo_feed (hB : E.1 ≤ w) (hi : IG G) (x y z p q : Int32) : MO E w 124 [zi x, zi y, zi z, zi p, zi q] G (oFeed G x y z p q).1 (oFeed G x y z p q).2 := MO.op (fun S I h => mp_feed (dd := 13) hB h hi x y z p q)
theorem xo_plan (hB : E.1 ≤ B) (hi : IG G) (x : Int32) : XO E B 37 [zi x] G (oPlan G x).1 (oPlan G x).2 := fun S I h hT hm hz hk => sp_X0_plan (d := 4) hB h hi hT hm hz hk
theorem mo_plan (hB : E.1 ≤ w) (hi : IG G) (x : Int32) : MO E w 125 [zi x] G (oPlan G x).1 (oPlan G x).2 := fun S I h hT => mp_plan (d := 4) hB h hi hT
theorem xo_laws (hB : E.1 ≤ B) (hi : IG G) (x : Int32) : XO E B 41 [zi x] G (oLaws G x).1 (oLaws G x).2 := fun S I h hT hm hz hk => sp_X0_laws (d := 4) hB h hi hT hm hz hk
theorem mo_laws (hB : E.1 ≤ w) (hi : IG G) (x : Int32) : MO E w 141 [zi x] G (oLaws G x).1 (oLaws G x).2 := fun S I h hT => mp_laws (d := 4) hB h hi hT
theorem xo_fault (hi : IG G) : XO E B 43 [] G (gU G 0 3) G := XO.q (fun S I h => xq_fault (d := 13) h)
theorem mo_fault (hB : E.1 ≤ w) (hi : IG G) : MO E w 144 [] G (gU G 0 3) G := MO.q hi (fun S I h => mq_fault (d := 13) hB h)
theorem xo_where (hi : IG G) (hw : IW G) : XO E B 44 [] G (gU G 0 2) G := XO.q (fun S I h => xq_where (d := 13) h hw)
theorem mo_where (hB : E.1 ≤ w) (hi : IG G) : MO E w 145 [] G (gU G 0 2) G := MO.q hi (fun S I h => mq_where (d := 13) hB h)
theorem xo_team (hB : E.1 ≤ B) (hi : IG G) (x y z p q : Int32) : XO E B 45 [zi x, zi y, zi z, zi p, zi q] G (oTeam G x y z p q).1 (oTeam G x y z p q).2 := XO.op (fun S I h => sp_X0_team (d := 9) hB h hi x y z p q)
theorem mo_team (hB : E.1 ≤ w) (hi : IG G) (x y z p q : Int32) : MO E w 148 [zi x, zi y, zi z, zi p, zi q] G (oTeam G x y z p q).1 (oTeam G x y z p q).2 := MO.op (fun S I h => mp_team (d := 9) hB h hi x y z p q)
theorem xo_follow (hB : E.1 ≤ B) (hi : IG G) (x y : Int32) : XO E B 46 [zi x, zi y] G (oFollow G x y).1 (oFollow G x y).2 := XO.op (fun S I h => sp_X0_follow (d := 9) hB h hi x y)
theorem mo_follow (hB : E.1 ≤ w) (hi : IG G) (x y : Int32) : MO E w 150 [zi x, zi y] G (oFollow G x y).1 (oFollow G x y).2 := MO.op (fun S I h => mp_follow (d := 9) hB h hi x y)
theorem xo_gap (hB : E.1 ≤ B) (hi : IG G) (x y z : Int32) : XO E B 48 [zi x, zi y, zi z] G (oGap G x y z).1 (oGap G x y z).2 := XO.op (fun S I h => sp_X0_gap (d := 9) hB h hi x y z)
theorem mo_gap (hB : E.1 ≤ w) (hi : IG G) (x y z : Int32) : MO E w 152 [zi x, zi y, zi z] G (oGap G x y z).1 (oGap G x y z).2 := MO.op (fun S I h => mp_gap (d := 9) hB h hi x y z)
theorem xo_each (hB : E.1 ≤ B) (hi : IG G) (x : Int32) : XO E B 49 [zi x] G (oEach G x).1 (oEach G x).2 := XO.op (fun S I h => sp_X0_each (d := 10) hB h hi x)
theorem mo_each (hB : E.1 ≤ w) (hi : IG G) (x : Int32) : MO E w 153 [zi x] G (oEach G x).1 (oEach G x).2 := MO.op (fun S I h => mp_each (d := 10) hB h hi x)
theorem xo_run (hB : E.1 ≤ B) (hi : IG G) (x : Int32) : XO E B 50 [zi x] G (oRun G x).1 (oRun G x).2 := XO.op (fun S I h => sp_X0_run (d := 5) hB h hi x)
theorem mo_run (hB : E.1 ≤ w) (hi : IG G) (x : Int32) : MO E w 154 [zi x] G (oRun G x).1 (oRun G x).2 := MO.op (fun S I h => sp_X6_run (d := 7) hB h hi x)
theorem xo_about (hi : IG G) (x y : Int32) : XO E B 51 [zi x, zi y] G (qAbout G x y) G := XO.q (fun S I h => xq_about (d := 11) h hi x y)
theorem mo_about (hB : E.1 ≤ w) (hi : IG G) (x y : Int32) : MO E w 161 [zi x, zi y] G (qAbout G x y) G := MO.q hi (fun S I h => mq_about (d := 11) hB h hi x y)
theorem xo_dog (hi : IG G) (x y z : Int32) : XO E B 52 [zi x, zi y, zi z] G (qDog G x y z) G := XO.q (fun S I h => xq_dog (d := 11) h hi x y z)
theorem mo_dog (hB : E.1 ≤ w) (hi : IG G) (x y z : Int32) : MO E w 162 [zi x, zi y, zi z] G (qDog G x y z) G := MO.q hi (fun S I h => mq_dog (d := 11) hB h hi x y z)
theorem xo_time (hi : IG G) (x y z : Int32) : XO E B 53 [zi x, zi y, zi z] G (qTime G x y z) G := XO.q (fun S I h => xq_time (d := 11) h hi x y z)
theorem mo_time (hB : E.1 ≤ w) (hi : IG G) (x y z : Int32) : MO E w 163 [zi x, zi y, zi z] G (qTime G x y z) G := MO.q hi (fun S I h => mq_time (d := 11) hB h hi x y z)
theorem xo_did (hi : IG G) (x : Int32) : XO E B 54 [zi x] G (qDid G x) G := XO.q (fun S I h => xq_did (d := 11) h hi x)
theorem mo_did (hB : E.1 ≤ w) (hi : IG G) (x : Int32) : MO E w 164 [zi x] G (qDid G x) G := MO.q hi (fun S I h => mq_did (d := 11) hB h hi x)
theorem xo_result (hi : IG G) (hL : IL G) (x : Int32) : XO E B 55 [zi x] G (qResult G x) G := XO.q (fun S I h => xq_result (d := 9) h hi hL x)
theorem mo_result (hB : E.1 ≤ w) (hi : IG G) (hL : IL G) (x : Int32) : MO E w 165 [zi x] G (qResult G x) G := MO.q hi (fun S I h => mq_result (d := 8) hB h hi hL x)
theorem xo_lacks (hi : IG G) (hL : IL G) (x y : Int32) : XO E B 58 [zi x, zi y] G (qLacks G x y) G := XO.q (fun S I h => xq_lacks (d := 9) h hi hL x y)
theorem mo_lacks (hB : E.1 ≤ w) (hi : IG G) (hL : IL G) (x y : Int32) : MO E w 169 [zi x, zi y] G (qLacks G x y) G := MO.q hi (fun S I h => mq_lacks (d := 8) hB h hi hL x y)
theorem xo_place (hB : E.1 ≤ B) (hi : IG G) (hL : IL G) (x : Int32) : XO E B 59 [zi x] G (tpl G x (nn (gV G 0 1)) 0) G := fun S I h hT hm hz hk => sp_X0_place (d := 8) hB h hi hL hm hz
theorem mo_place (hB : E.1 ≤ w) (hi : IG G) (hL : IL G) (x : Int32) : MO E w 170 [zi x] G (tpl G x (nn (gV G 0 1)) 0) G := MO.q hi (fun S I h => mq_place (d := 7) hB h hi hL x)
theorem xo_came (hi : IG G) (x y : Int32) : XO E B 61 [zi x, zi y] G (qCame G x y) G := XO.q (fun S I h => xq_came (d := 11) h hi x y)
theorem mo_came (hB : E.1 ≤ w) (hi : IG G) (x y : Int32) : MO E w 172 [zi x, zi y] G (qCame G x y) G := MO.q hi (fun S I h => mq_came (d := 11) hB h hi x y)
theorem xo_spot (hi : IG G) (x y z : Int32) : XO E B 62 [zi x, zi y, zi z] G (qSpot G x y z) G := XO.q (fun S I h => xq_spot (d := 11) h hi x y z)
theorem mo_spot (hB : E.1 ≤ w) (hi : IG G) (x y z : Int32) : MO E w 173 [zi x, zi y, zi z] G (qSpot G x y z) G := MO.q hi (fun S I h => mq_spot (d := 11) hB h hi x y z)
theorem xo_signs (hi : IG G) (x : Int32) : XO E B 63 [zi x] G (qSigns G x) G := XO.q (fun S I h => xq_signs (d := 11) h hi x)
theorem mo_signs (hB : E.1 ≤ w) (hi : IG G) (x : Int32) : MO E w 175 [zi x] G (qSigns G x) G := MO.q hi (fun S I h => mq_signs (d := 11) hB h hi x)
theorem xo_replay (hB : E.1 ≤ B) (hi : IG G) (he : IE G) (x y z : Int32) : XO E B 64 [zi x, zi y, zi z] G (oReplay G x y z).1 (oReplay G x y z).2 := XO.op (fun S I h => sp_X0_replay (d := 5) hB h hi he x y z)
theorem mo_replay (hB : E.1 ≤ w) (hi : IG G) (he : IE G) (x y z : Int32) : MO E w 176 [zi x, zi y, zi z] G (oReplay G x y z).1 (oReplay G x y z).2 := MO.op (fun S I h => mp_replay (d := 7) hB h hi he x y z)
theorem xo_keep (hB : E.1 ≤ B) (hi : IG G) : XO E B 65 [] G (1) (sKp G) := XO.op (fun S I h => sp_X0_keep (d := 8) hB h hi)
theorem mo_keep (hB : E.1 ≤ w) (hi : IG G) : MO E w 115 [] G (1) (sKp G) := MO.op (fun S I h => mp_keep (d := 11) hB h hi)
theorem xo_back (hB : E.1 ≤ B) (hi : IG G) : XO E B 66 [] G (oBack G).1 (oBack G).2 := XO.op (fun S I h => sp_X0_back (d := 8) hB h hi)
theorem mo_back (hB : E.1 ≤ w) (hi : IG G) : MO E w 116 [] G (oBack G).1 (oBack G).2 := MO.op (fun S I h => mp_back (d := 11) hB h hi)
theorem xo_law (hi : IG G) (x y : Int32) : XO E B 67 [zi x, zi y] G (qLaw G x y) G := XO.q (fun S I h => xq_law (d := 11) h hi x y)
theorem mo_law (hB : E.1 ≤ w) (hi : IG G) (x y : Int32) : MO E w 146 [zi x, zi y] G (qLaw G x y) G := MO.q hi (fun S I h => mq_law (d := 11) hB h hi x y)
theorem xo_planned (hi : IG G) (x y : Int32) : XO E B 68 [zi x, zi y] G (qPlanned G x y) G := XO.q (fun S I h => xq_planned (d := 11) h hi x y)
theorem mo_planned (hB : E.1 ≤ w) (hi : IG G) (x y : Int32) : MO E w 147 [zi x, zi y] G (qPlanned G x y) G := MO.q hi (fun S I h => mq_planned (d := 11) hB h hi x y)
theorem xo_count (hi : IG G) (x : Int32) : XO E B 69 [zi x] G (tCount G x) G := XO.q (fun S I h => xq_count (d := 11) h hi x)
theorem mo_count (hB : E.1 ≤ w) (hi : IG G) (x : Int32) : MO E w 177 [zi x] G (tCount G x) G := MO.q hi (fun S I h => mq_count (d := 11) hB h hi x)
theorem xo_trouble (hi : IG G) : XO E B 70 [] G (gU G 0 1) G := XO.q (fun S I h => xq_trouble (d := 13) h)
theorem mo_trouble (hB : E.1 ≤ w) (hi : IG G) : MO E w 178 [] G (gU G 0 1) G := MO.q hi (fun S I h => mq_trouble (d := 13) hB h)
/-- the law goes on to the end from the next call on -/
def NX (E : zE) (B b n : Nat) (s : Nat → Int32) (j c u : Nat) (S : zM) : Prop := ∀ S' I' G', LR E B b n s S' I' G' → mS S' ≤ mS S + 784 → mU S' ≤ mU S + 3926 → ∃ S2 I2, zAt E 14 215 18 [some (zr (some b)), some (zr (some B)), some (zr (some (B + 318))), some (zi (Int32.ofNat (6 * j + 6)))] [] (zwi S' I') (Sum.inl (some (zi 1)), zwi S2 I2) ∧ mS S2 ≤ c ∧ mU S2 ≤ u
theorem cl_1083 {r : zR} {M : zM} (h : zAt E 14 215 18 [some (zr (some b)), some (zr (some B)), some (zr (some (B + 318))), some (zi (Int32.ofNat (6 * j + 6)))] [] M r) : zAt E 14 215 1083 [some (zr (some b)), some (zr (some B)), some (zr (some (B + 318))), some (zi (Int32.ofNat (6 * j)))] [] M r := by
  have e0 := @b_L_law_1083
  refine zat_in zP_L_law zk_L_law_1083 ?_
  simp only [e0, i_ad6]
  exact ev_bk h
theorem cl_leg (hB : E.1 ≤ B) (h : LR E B b n s S I G) (hn : n ≤ 384) (hj : 6 * j + 6 ≤ n) (hN : NX E B b n s j c u S) : ∃ S2 I2, zAt E 14 215 164 [some (zr (some b)), some (zr (some B)), some (zr (some (B + 318))), some (zi (Int32.ofNat (6 * j)))] [] (zwi S I) (Sum.inl (some (zi 1)), zwi S2 I2) ∧ mS S2 ≤ c ∧ mU S2 ≤ u := by
  obtain ⟨⟨hX, hM⟩, ⟨hi, he, hl⟩, -, ⟨hb, kb, nb, sb⟩⟩ := id h
  have b0 := hX.1.1
  obtain ⟨S1, I1, S2, I2, a1, ⟨k1, n1, s1, k7⟩, a2, L2, m2, u2⟩ := h.op (xo_leg hB hi (s (6 * j + 1)) (s (6 * j + 2))) (mo_leg (by omega) hi (s (6 * j + 1)) (s (6 * j + 2))) ⟨iLeg hi _ _, he.leg _ _, hl.leg _ _⟩
  obtain ⟨S3, I3, a3, b3⟩ := hN S2 I2 _ L2 m2 u2
  refine ⟨S3, I3, ?_, b3⟩
  have e0 := @b_L_law_164
  refine zat_in zP_L_law zk_L_law_164 ?_
  simp (disch := omega) only [e0, zif, zdr, zkb, mK_wi, mN_wi, mJ_wi, mI_wi, sI_wi, beq_self_eq_true, Bool.true_or, Bool.or_true, Bool.or_false, Bool.and_self, Bool.and_true, Bool.true_and, ↓reduceIte, ble_up0, i_cl, i_succ, zix_of, zfl_k, zup_k, zup_q, kb, nb, sb, b0, i_ad2, i_ad3, i_ad4, i_ad5]
  refine ev_ci a1 ?_
  try simp (disch := omega) only [zif, zdr, zkb, mK_wi, mN_wi, mJ_wi, mI_wi, sI_wi, beq_self_eq_true, Bool.true_or, Bool.or_true, Bool.or_false, Bool.and_self, Bool.and_true, Bool.true_and, ble_up0, i_cl, i_succ, zix_of, zfl_k, zup_k, zup_q, k1, n1, s1, k7, i_ad2, i_ad3, i_ad4, i_ad5]
  refine ev_ci a2 ?_
  refine ev_th _ (fun _ => ?_) (fun h => (h (by first | rfl | trivial)).elim)
  exact ev_bk (cl_1083 a3)
theorem cl_cold (hB : E.1 ≤ B) (h : LR E B b n s S I G) (hn : n ≤ 384) (hj : 6 * j + 6 ≤ n) (hN : NX E B b n s j c u S) : ∃ S2 I2, zAt E 14 215 197 [some (zr (some b)), some (zr (some B)), some (zr (some (B + 318))), some (zi (Int32.ofNat (6 * j)))] [] (zwi S I) (Sum.inl (some (zi 1)), zwi S2 I2) ∧ mS S2 ≤ c ∧ mU S2 ≤ u := by
  obtain ⟨⟨hX, hM⟩, ⟨hi, he, hl⟩, -, ⟨hb, kb, nb, sb⟩⟩ := id h
  have b0 := hX.1.1
  obtain ⟨S1, I1, S2, I2, a1, ⟨k1, n1, s1, k7⟩, a2, L2, m2, u2⟩ := h.op (xo_cold hB hi (s (6 * j + 1)) (s (6 * j + 2)) (s (6 * j + 3))) (mo_cold (by omega) hi (s (6 * j + 1)) (s (6 * j + 2)) (s (6 * j + 3))) ⟨iCold hi _ _ _, he.cold _ _ _, hl.cold _ _ _⟩
  obtain ⟨S3, I3, a3, b3⟩ := hN S2 I2 _ L2 m2 u2
  refine ⟨S3, I3, ?_, b3⟩
  have e0 := @b_L_law_197
  refine zat_in zP_L_law zk_L_law_197 ?_
  simp (disch := omega) only [e0, zif, zdr, zkb, mK_wi, mN_wi, mJ_wi, mI_wi, sI_wi, beq_self_eq_true, Bool.true_or, Bool.or_true, Bool.or_false, Bool.and_self, Bool.and_true, Bool.true_and, ↓reduceIte, ble_up0, i_cl, i_succ, zix_of, zfl_k, zup_k, zup_q, kb, nb, sb, b0, i_ad2, i_ad3, i_ad4, i_ad5]
  refine ev_ci a1 ?_
  try simp (disch := omega) only [zif, zdr, zkb, mK_wi, mN_wi, mJ_wi, mI_wi, sI_wi, beq_self_eq_true, Bool.true_or, Bool.or_true, Bool.or_false, Bool.and_self, Bool.and_true, Bool.true_and, ble_up0, i_cl, i_succ, zix_of, zfl_k, zup_k, zup_q, k1, n1, s1, k7, i_ad2, i_ad3, i_ad4, i_ad5]
  refine ev_ci a2 ?_
  refine ev_th _ (fun _ => ?_) (fun h => (h (by first | rfl | trivial)).elim)
  exact ev_bk (cl_1083 a3)
theorem cl_feed (hB : E.1 ≤ B) (h : LR E B b n s S I G) (hn : n ≤ 384) (hj : 6 * j + 6 ≤ n) (hN : NX E B b n s j c u S) : ∃ S2 I2, zAt E 14 215 240 [some (zr (some b)), some (zr (some B)), some (zr (some (B + 318))), some (zi (Int32.ofNat (6 * j)))] [] (zwi S I) (Sum.inl (some (zi 1)), zwi S2 I2) ∧ mS S2 ≤ c ∧ mU S2 ≤ u := by
  obtain ⟨⟨hX, hM⟩, ⟨hi, he, hl⟩, -, ⟨hb, kb, nb, sb⟩⟩ := id h
  have b0 := hX.1.1
  obtain ⟨S1, I1, S2, I2, a1, ⟨k1, n1, s1, k7⟩, a2, L2, m2, u2⟩ := h.op (xo_feed hB hi (s (6 * j + 1)) (s (6 * j + 2)) (s (6 * j + 3)) (s (6 * j + 4)) (s (6 * j + 5))) (mo_feed (by omega) hi (s (6 * j + 1)) (s (6 * j + 2)) (s (6 * j + 3)) (s (6 * j + 4)) (s (6 * j + 5))) ⟨iFeed hi _ _ _ _ _, he.feed _ _ _ _ _, hl.feed _ _ _ _ _⟩
  obtain ⟨S3, I3, a3, b3⟩ := hN S2 I2 _ L2 m2 u2
  refine ⟨S3, I3, ?_, b3⟩
  have e0 := @b_L_law_240
  refine zat_in zP_L_law zk_L_law_240 ?_
  simp (disch := omega) only [e0, zif, zdr, zkb, mK_wi, mN_wi, mJ_wi, mI_wi, sI_wi, beq_self_eq_true, Bool.true_or, Bool.or_true, Bool.or_false, Bool.and_self, Bool.and_true, Bool.true_and, ↓reduceIte, ble_up0, i_cl, i_succ, zix_of, zfl_k, zup_k, zup_q, kb, nb, sb, b0, i_ad2, i_ad3, i_ad4, i_ad5]
  refine ev_ci a1 ?_
  try simp (disch := omega) only [zif, zdr, zkb, mK_wi, mN_wi, mJ_wi, mI_wi, sI_wi, beq_self_eq_true, Bool.true_or, Bool.or_true, Bool.or_false, Bool.and_self, Bool.and_true, Bool.true_and, ble_up0, i_cl, i_succ, zix_of, zfl_k, zup_k, zup_q, k1, n1, s1, k7, i_ad2, i_ad3, i_ad4, i_ad5]
  refine ev_ci a2 ?_
  refine ev_th _ (fun _ => ?_) (fun h => (h (by first | rfl | trivial)).elim)
  exact ev_bk (cl_1083 a3)
theorem cl_plan (hB : E.1 ≤ B) (h : LR E B b n s S I G) (hn : n ≤ 384) (hj : 6 * j + 6 ≤ n) (hN : NX E B b n s j c u S) : ∃ S2 I2, zAt E 14 215 303 [some (zr (some b)), some (zr (some B)), some (zr (some (B + 318))), some (zi (Int32.ofNat (6 * j)))] [] (zwi S I) (Sum.inl (some (zi 1)), zwi S2 I2) ∧ mS S2 ≤ c ∧ mU S2 ≤ u := by
  obtain ⟨⟨hX, hM⟩, ⟨hi, he, hl⟩, -, ⟨hb, kb, nb, sb⟩⟩ := id h
  have b0 := hX.1.1
  obtain ⟨S1, I1, S2, I2, a1, ⟨k1, n1, s1, k7⟩, a2, L2, m2, u2⟩ := h.op (xo_plan hB hi (s (6 * j + 1))) (mo_plan (by omega) hi (s (6 * j + 1))) ⟨iPlan hi, he.plan, hl.plan⟩
  obtain ⟨S3, I3, a3, b3⟩ := hN S2 I2 _ L2 m2 u2
  refine ⟨S3, I3, ?_, b3⟩
  have e0 := @b_L_law_303
  refine zat_in zP_L_law zk_L_law_303 ?_
  simp (disch := omega) only [e0, zif, zdr, zkb, mK_wi, mN_wi, mJ_wi, mI_wi, sI_wi, beq_self_eq_true, Bool.true_or, Bool.or_true, Bool.or_false, Bool.and_self, Bool.and_true, Bool.true_and, ↓reduceIte, ble_up0, i_cl, i_succ, zix_of, zfl_k, zup_k, zup_q, kb, nb, sb, b0, i_ad2, i_ad3, i_ad4, i_ad5]
  refine ev_ci a1 ?_
  try simp (disch := omega) only [zif, zdr, zkb, mK_wi, mN_wi, mJ_wi, mI_wi, sI_wi, beq_self_eq_true, Bool.true_or, Bool.or_true, Bool.or_false, Bool.and_self, Bool.and_true, Bool.true_and, ble_up0, i_cl, i_succ, zix_of, zfl_k, zup_k, zup_q, k1, n1, s1, k7, i_ad2, i_ad3, i_ad4, i_ad5]
  refine ev_ci a2 ?_
  refine ev_th _ (fun _ => ?_) (fun h => (h (by first | rfl | trivial)).elim)
  exact ev_bk (cl_1083 a3)
theorem cl_laws (hB : E.1 ≤ B) (h : LR E B b n s S I G) (hn : n ≤ 384) (hj : 6 * j + 6 ≤ n) (hN : NX E B b n s j c u S) : ∃ S2 I2, zAt E 14 215 326 [some (zr (some b)), some (zr (some B)), some (zr (some (B + 318))), some (zi (Int32.ofNat (6 * j)))] [] (zwi S I) (Sum.inl (some (zi 1)), zwi S2 I2) ∧ mS S2 ≤ c ∧ mU S2 ≤ u := by
  obtain ⟨⟨hX, hM⟩, ⟨hi, he, hl⟩, -, ⟨hb, kb, nb, sb⟩⟩ := id h
  have b0 := hX.1.1
  obtain ⟨S1, I1, S2, I2, a1, ⟨k1, n1, s1, k7⟩, a2, L2, m2, u2⟩ := h.op (xo_laws hB hi (s (6 * j + 1))) (mo_laws (by omega) hi (s (6 * j + 1))) ⟨iLaws hi, he.laws, hl.laws⟩
  obtain ⟨S3, I3, a3, b3⟩ := hN S2 I2 _ L2 m2 u2
  refine ⟨S3, I3, ?_, b3⟩
  have e0 := @b_L_law_326
  refine zat_in zP_L_law zk_L_law_326 ?_
  simp (disch := omega) only [e0, zif, zdr, zkb, mK_wi, mN_wi, mJ_wi, mI_wi, sI_wi, beq_self_eq_true, Bool.true_or, Bool.or_true, Bool.or_false, Bool.and_self, Bool.and_true, Bool.true_and, ↓reduceIte, ble_up0, i_cl, i_succ, zix_of, zfl_k, zup_k, zup_q, kb, nb, sb, b0, i_ad2, i_ad3, i_ad4, i_ad5]
  refine ev_ci a1 ?_
  try simp (disch := omega) only [zif, zdr, zkb, mK_wi, mN_wi, mJ_wi, mI_wi, sI_wi, beq_self_eq_true, Bool.true_or, Bool.or_true, Bool.or_false, Bool.and_self, Bool.and_true, Bool.true_and, ble_up0, i_cl, i_succ, zix_of, zfl_k, zup_k, zup_q, k1, n1, s1, k7, i_ad2, i_ad3, i_ad4, i_ad5]
  refine ev_ci a2 ?_
  refine ev_th _ (fun _ => ?_) (fun h => (h (by first | rfl | trivial)).elim)
  exact ev_bk (cl_1083 a3)
theorem cl_fault (hB : E.1 ≤ B) (h : LR E B b n s S I G) (hn : n ≤ 384) (hj : 6 * j + 6 ≤ n) (hN : NX E B b n s j c u S) : ∃ S2 I2, zAt E 14 215 349 [some (zr (some b)), some (zr (some B)), some (zr (some (B + 318))), some (zi (Int32.ofNat (6 * j)))] [] (zwi S I) (Sum.inl (some (zi 1)), zwi S2 I2) ∧ mS S2 ≤ c ∧ mU S2 ≤ u := by
  obtain ⟨⟨hX, hM⟩, ⟨hi, he, hl⟩, -, ⟨hb, kb, nb, sb⟩⟩ := id h
  have b0 := hX.1.1
  obtain ⟨S1, I1, S2, I2, a1, ⟨k1, n1, s1, k7⟩, a2, L2, m2, u2⟩ := h.op (xo_fault hi) (mo_fault (by omega) hi) ⟨hi, he, hl⟩
  obtain ⟨S3, I3, a3, b3⟩ := hN S2 I2 _ L2 m2 u2
  refine ⟨S3, I3, ?_, b3⟩
  have e0 := @b_L_law_349
  refine zat_in zP_L_law zk_L_law_349 ?_
  simp (disch := omega) only [e0, zif, zdr, zkb, mK_wi, mN_wi, mJ_wi, mI_wi, sI_wi, beq_self_eq_true, Bool.true_or, Bool.or_true, Bool.or_false, Bool.and_self, Bool.and_true, Bool.true_and, ↓reduceIte, ble_up0, i_cl, i_succ, zix_of, zfl_k, zup_k, zup_q, kb, nb, sb, b0, i_ad2, i_ad3, i_ad4, i_ad5]
  refine ev_ci a1 ?_
  try simp (disch := omega) only [zif, zdr, zkb, mK_wi, mN_wi, mJ_wi, mI_wi, sI_wi, beq_self_eq_true, Bool.true_or, Bool.or_true, Bool.or_false, Bool.and_self, Bool.and_true, Bool.true_and, ble_up0, i_cl, i_succ, zix_of, zfl_k, zup_k, zup_q, k1, n1, s1, k7, i_ad2, i_ad3, i_ad4, i_ad5]
  refine ev_ci a2 ?_
  refine ev_th _ (fun _ => ?_) (fun h => (h (by first | rfl | trivial)).elim)
  exact ev_bk (cl_1083 a3)
theorem cl_where (hB : E.1 ≤ B) (h : LR E B b n s S I G) (hn : n ≤ 384) (hj : 6 * j + 6 ≤ n) (hN : NX E B b n s j c u S) : ∃ S2 I2, zAt E 14 215 362 [some (zr (some b)), some (zr (some B)), some (zr (some (B + 318))), some (zi (Int32.ofNat (6 * j)))] [] (zwi S I) (Sum.inl (some (zi 1)), zwi S2 I2) ∧ mS S2 ≤ c ∧ mU S2 ≤ u := by
  obtain ⟨⟨hX, hM⟩, ⟨hi, he, hl⟩, -, ⟨hb, kb, nb, sb⟩⟩ := id h
  have b0 := hX.1.1
  obtain ⟨S1, I1, S2, I2, a1, ⟨k1, n1, s1, k7⟩, a2, L2, m2, u2⟩ := h.op (xo_where hi he.2.2) (mo_where (by omega) hi) ⟨hi, he, hl⟩
  obtain ⟨S3, I3, a3, b3⟩ := hN S2 I2 _ L2 m2 u2
  refine ⟨S3, I3, ?_, b3⟩
  have e0 := @b_L_law_362
  refine zat_in zP_L_law zk_L_law_362 ?_
  simp (disch := omega) only [e0, zif, zdr, zkb, mK_wi, mN_wi, mJ_wi, mI_wi, sI_wi, beq_self_eq_true, Bool.true_or, Bool.or_true, Bool.or_false, Bool.and_self, Bool.and_true, Bool.true_and, ↓reduceIte, ble_up0, i_cl, i_succ, zix_of, zfl_k, zup_k, zup_q, kb, nb, sb, b0, i_ad2, i_ad3, i_ad4, i_ad5]
  refine ev_ci a1 ?_
  try simp (disch := omega) only [zif, zdr, zkb, mK_wi, mN_wi, mJ_wi, mI_wi, sI_wi, beq_self_eq_true, Bool.true_or, Bool.or_true, Bool.or_false, Bool.and_self, Bool.and_true, Bool.true_and, ble_up0, i_cl, i_succ, zix_of, zfl_k, zup_k, zup_q, k1, n1, s1, k7, i_ad2, i_ad3, i_ad4, i_ad5]
  refine ev_ci a2 ?_
  refine ev_th _ (fun _ => ?_) (fun h => (h (by first | rfl | trivial)).elim)
  exact ev_bk (cl_1083 a3)
theorem cl_team (hB : E.1 ≤ B) (h : LR E B b n s S I G) (hn : n ≤ 384) (hj : 6 * j + 6 ≤ n) (hN : NX E B b n s j c u S) : ∃ S2 I2, zAt E 14 215 375 [some (zr (some b)), some (zr (some B)), some (zr (some (B + 318))), some (zi (Int32.ofNat (6 * j)))] [] (zwi S I) (Sum.inl (some (zi 1)), zwi S2 I2) ∧ mS S2 ≤ c ∧ mU S2 ≤ u := by
  obtain ⟨⟨hX, hM⟩, ⟨hi, he, hl⟩, -, ⟨hb, kb, nb, sb⟩⟩ := id h
  have b0 := hX.1.1
  obtain ⟨S1, I1, S2, I2, a1, ⟨k1, n1, s1, k7⟩, a2, L2, m2, u2⟩ := h.op (xo_team hB hi (s (6 * j + 1)) (s (6 * j + 2)) (s (6 * j + 3)) (s (6 * j + 4)) (s (6 * j + 5))) (mo_team (by omega) hi (s (6 * j + 1)) (s (6 * j + 2)) (s (6 * j + 3)) (s (6 * j + 4)) (s (6 * j + 5))) ⟨iTeam hi _ _ _ _ _, IE.team hi he _ _ _ _ _, hl.team _ _ _ _ _⟩
  obtain ⟨S3, I3, a3, b3⟩ := hN S2 I2 _ L2 m2 u2
  refine ⟨S3, I3, ?_, b3⟩
  have e0 := @b_L_law_375
  refine zat_in zP_L_law zk_L_law_375 ?_
  simp (disch := omega) only [e0, zif, zdr, zkb, mK_wi, mN_wi, mJ_wi, mI_wi, sI_wi, beq_self_eq_true, Bool.true_or, Bool.or_true, Bool.or_false, Bool.and_self, Bool.and_true, Bool.true_and, ↓reduceIte, ble_up0, i_cl, i_succ, zix_of, zfl_k, zup_k, zup_q, kb, nb, sb, b0, i_ad2, i_ad3, i_ad4, i_ad5]
  refine ev_ci a1 ?_
  try simp (disch := omega) only [zif, zdr, zkb, mK_wi, mN_wi, mJ_wi, mI_wi, sI_wi, beq_self_eq_true, Bool.true_or, Bool.or_true, Bool.or_false, Bool.and_self, Bool.and_true, Bool.true_and, ble_up0, i_cl, i_succ, zix_of, zfl_k, zup_k, zup_q, k1, n1, s1, k7, i_ad2, i_ad3, i_ad4, i_ad5]
  refine ev_ci a2 ?_
  refine ev_th _ (fun _ => ?_) (fun h => (h (by first | rfl | trivial)).elim)
  exact ev_bk (cl_1083 a3)
theorem cl_follow (hB : E.1 ≤ B) (h : LR E B b n s S I G) (hn : n ≤ 384) (hj : 6 * j + 6 ≤ n) (hN : NX E B b n s j c u S) : ∃ S2 I2, zAt E 14 215 438 [some (zr (some b)), some (zr (some B)), some (zr (some (B + 318))), some (zi (Int32.ofNat (6 * j)))] [] (zwi S I) (Sum.inl (some (zi 1)), zwi S2 I2) ∧ mS S2 ≤ c ∧ mU S2 ≤ u := by
  obtain ⟨⟨hX, hM⟩, ⟨hi, he, hl⟩, -, ⟨hb, kb, nb, sb⟩⟩ := id h
  have b0 := hX.1.1
  obtain ⟨S1, I1, S2, I2, a1, ⟨k1, n1, s1, k7⟩, a2, L2, m2, u2⟩ := h.op (xo_follow hB hi (s (6 * j + 1)) (s (6 * j + 2))) (mo_follow (by omega) hi (s (6 * j + 1)) (s (6 * j + 2))) ⟨iFollow hi _ _, he.follow _ _, hl.follow _ _⟩
  obtain ⟨S3, I3, a3, b3⟩ := hN S2 I2 _ L2 m2 u2
  refine ⟨S3, I3, ?_, b3⟩
  have e0 := @b_L_law_438
  refine zat_in zP_L_law zk_L_law_438 ?_
  simp (disch := omega) only [e0, zif, zdr, zkb, mK_wi, mN_wi, mJ_wi, mI_wi, sI_wi, beq_self_eq_true, Bool.true_or, Bool.or_true, Bool.or_false, Bool.and_self, Bool.and_true, Bool.true_and, ↓reduceIte, ble_up0, i_cl, i_succ, zix_of, zfl_k, zup_k, zup_q, kb, nb, sb, b0, i_ad2, i_ad3, i_ad4, i_ad5]
  refine ev_ci a1 ?_
  try simp (disch := omega) only [zif, zdr, zkb, mK_wi, mN_wi, mJ_wi, mI_wi, sI_wi, beq_self_eq_true, Bool.true_or, Bool.or_true, Bool.or_false, Bool.and_self, Bool.and_true, Bool.true_and, ble_up0, i_cl, i_succ, zix_of, zfl_k, zup_k, zup_q, k1, n1, s1, k7, i_ad2, i_ad3, i_ad4, i_ad5]
  refine ev_ci a2 ?_
  refine ev_th _ (fun _ => ?_) (fun h => (h (by first | rfl | trivial)).elim)
  exact ev_bk (cl_1083 a3)
theorem cl_gap (hB : E.1 ≤ B) (h : LR E B b n s S I G) (hn : n ≤ 384) (hj : 6 * j + 6 ≤ n) (hN : NX E B b n s j c u S) : ∃ S2 I2, zAt E 14 215 471 [some (zr (some b)), some (zr (some B)), some (zr (some (B + 318))), some (zi (Int32.ofNat (6 * j)))] [] (zwi S I) (Sum.inl (some (zi 1)), zwi S2 I2) ∧ mS S2 ≤ c ∧ mU S2 ≤ u := by
  obtain ⟨⟨hX, hM⟩, ⟨hi, he, hl⟩, -, ⟨hb, kb, nb, sb⟩⟩ := id h
  have b0 := hX.1.1
  obtain ⟨S1, I1, S2, I2, a1, ⟨k1, n1, s1, k7⟩, a2, L2, m2, u2⟩ := h.op (xo_gap hB hi (s (6 * j + 1)) (s (6 * j + 2)) (s (6 * j + 3))) (mo_gap (by omega) hi (s (6 * j + 1)) (s (6 * j + 2)) (s (6 * j + 3))) ⟨iGap hi _ _ _, he.gap _ _ _, hl.gap _ _ _⟩
  obtain ⟨S3, I3, a3, b3⟩ := hN S2 I2 _ L2 m2 u2
  refine ⟨S3, I3, ?_, b3⟩
  have e0 := @b_L_law_471
  refine zat_in zP_L_law zk_L_law_471 ?_
  simp (disch := omega) only [e0, zif, zdr, zkb, mK_wi, mN_wi, mJ_wi, mI_wi, sI_wi, beq_self_eq_true, Bool.true_or, Bool.or_true, Bool.or_false, Bool.and_self, Bool.and_true, Bool.true_and, ↓reduceIte, ble_up0, i_cl, i_succ, zix_of, zfl_k, zup_k, zup_q, kb, nb, sb, b0, i_ad2, i_ad3, i_ad4, i_ad5]
  refine ev_ci a1 ?_
  try simp (disch := omega) only [zif, zdr, zkb, mK_wi, mN_wi, mJ_wi, mI_wi, sI_wi, beq_self_eq_true, Bool.true_or, Bool.or_true, Bool.or_false, Bool.and_self, Bool.and_true, Bool.true_and, ble_up0, i_cl, i_succ, zix_of, zfl_k, zup_k, zup_q, k1, n1, s1, k7, i_ad2, i_ad3, i_ad4, i_ad5]
  refine ev_ci a2 ?_
  refine ev_th _ (fun _ => ?_) (fun h => (h (by first | rfl | trivial)).elim)
  exact ev_bk (cl_1083 a3)
theorem cl_each (hB : E.1 ≤ B) (h : LR E B b n s S I G) (hn : n ≤ 384) (hj : 6 * j + 6 ≤ n) (hN : NX E B b n s j c u S) : ∃ S2 I2, zAt E 14 215 514 [some (zr (some b)), some (zr (some B)), some (zr (some (B + 318))), some (zi (Int32.ofNat (6 * j)))] [] (zwi S I) (Sum.inl (some (zi 1)), zwi S2 I2) ∧ mS S2 ≤ c ∧ mU S2 ≤ u := by
  obtain ⟨⟨hX, hM⟩, ⟨hi, he, hl⟩, -, ⟨hb, kb, nb, sb⟩⟩ := id h
  have b0 := hX.1.1
  obtain ⟨S1, I1, S2, I2, a1, ⟨k1, n1, s1, k7⟩, a2, L2, m2, u2⟩ := h.op (xo_each hB hi (s (6 * j + 1))) (mo_each (by omega) hi (s (6 * j + 1))) ⟨iEach hi _, he.each _, hl.each _⟩
  obtain ⟨S3, I3, a3, b3⟩ := hN S2 I2 _ L2 m2 u2
  refine ⟨S3, I3, ?_, b3⟩
  have e0 := @b_L_law_514
  refine zat_in zP_L_law zk_L_law_514 ?_
  simp (disch := omega) only [e0, zif, zdr, zkb, mK_wi, mN_wi, mJ_wi, mI_wi, sI_wi, beq_self_eq_true, Bool.true_or, Bool.or_true, Bool.or_false, Bool.and_self, Bool.and_true, Bool.true_and, ↓reduceIte, ble_up0, i_cl, i_succ, zix_of, zfl_k, zup_k, zup_q, kb, nb, sb, b0, i_ad2, i_ad3, i_ad4, i_ad5]
  refine ev_ci a1 ?_
  try simp (disch := omega) only [zif, zdr, zkb, mK_wi, mN_wi, mJ_wi, mI_wi, sI_wi, beq_self_eq_true, Bool.true_or, Bool.or_true, Bool.or_false, Bool.and_self, Bool.and_true, Bool.true_and, ble_up0, i_cl, i_succ, zix_of, zfl_k, zup_k, zup_q, k1, n1, s1, k7, i_ad2, i_ad3, i_ad4, i_ad5]
  refine ev_ci a2 ?_
  refine ev_th _ (fun _ => ?_) (fun h => (h (by first | rfl | trivial)).elim)
  exact ev_bk (cl_1083 a3)
theorem cl_run (hB : E.1 ≤ B) (h : LR E B b n s S I G) (hn : n ≤ 384) (hj : 6 * j + 6 ≤ n) (hN : NX E B b n s j c u S) : ∃ S2 I2, zAt E 14 215 537 [some (zr (some b)), some (zr (some B)), some (zr (some (B + 318))), some (zi (Int32.ofNat (6 * j)))] [] (zwi S I) (Sum.inl (some (zi 1)), zwi S2 I2) ∧ mS S2 ≤ c ∧ mU S2 ≤ u := by
  obtain ⟨⟨hX, hM⟩, ⟨hi, he, hl⟩, -, ⟨hb, kb, nb, sb⟩⟩ := id h
  have b0 := hX.1.1
  obtain ⟨S1, I1, S2, I2, a1, ⟨k1, n1, s1, k7⟩, a2, L2, m2, u2⟩ := h.op (xo_run hB hi (s (6 * j + 1))) (mo_run (by omega) hi (s (6 * j + 1))) ⟨iRun hi _, IE.run hi he _, IL.run hi hl _⟩
  obtain ⟨S3, I3, a3, b3⟩ := hN S2 I2 _ L2 m2 u2
  refine ⟨S3, I3, ?_, b3⟩
  have e0 := @b_L_law_537
  refine zat_in zP_L_law zk_L_law_537 ?_
  simp (disch := omega) only [e0, zif, zdr, zkb, mK_wi, mN_wi, mJ_wi, mI_wi, sI_wi, beq_self_eq_true, Bool.true_or, Bool.or_true, Bool.or_false, Bool.and_self, Bool.and_true, Bool.true_and, ↓reduceIte, ble_up0, i_cl, i_succ, zix_of, zfl_k, zup_k, zup_q, kb, nb, sb, b0, i_ad2, i_ad3, i_ad4, i_ad5]
  refine ev_ci a1 ?_
  try simp (disch := omega) only [zif, zdr, zkb, mK_wi, mN_wi, mJ_wi, mI_wi, sI_wi, beq_self_eq_true, Bool.true_or, Bool.or_true, Bool.or_false, Bool.and_self, Bool.and_true, Bool.true_and, ble_up0, i_cl, i_succ, zix_of, zfl_k, zup_k, zup_q, k1, n1, s1, k7, i_ad2, i_ad3, i_ad4, i_ad5]
  refine ev_ci a2 ?_
  refine ev_th _ (fun _ => ?_) (fun h => (h (by first | rfl | trivial)).elim)
  exact ev_bk (cl_1083 a3)
theorem cl_about (hB : E.1 ≤ B) (h : LR E B b n s S I G) (hn : n ≤ 384) (hj : 6 * j + 6 ≤ n) (hN : NX E B b n s j c u S) : ∃ S2 I2, zAt E 14 215 560 [some (zr (some b)), some (zr (some B)), some (zr (some (B + 318))), some (zi (Int32.ofNat (6 * j)))] [] (zwi S I) (Sum.inl (some (zi 1)), zwi S2 I2) ∧ mS S2 ≤ c ∧ mU S2 ≤ u := by
  obtain ⟨⟨hX, hM⟩, ⟨hi, he, hl⟩, -, ⟨hb, kb, nb, sb⟩⟩ := id h
  have b0 := hX.1.1
  obtain ⟨S1, I1, S2, I2, a1, ⟨k1, n1, s1, k7⟩, a2, L2, m2, u2⟩ := h.op (xo_about hi (s (6 * j + 1)) (s (6 * j + 2))) (mo_about (by omega) hi (s (6 * j + 1)) (s (6 * j + 2))) ⟨hi, he, hl⟩
  obtain ⟨S3, I3, a3, b3⟩ := hN S2 I2 _ L2 m2 u2
  refine ⟨S3, I3, ?_, b3⟩
  have e0 := @b_L_law_560
  refine zat_in zP_L_law zk_L_law_560 ?_
  simp (disch := omega) only [e0, zif, zdr, zkb, mK_wi, mN_wi, mJ_wi, mI_wi, sI_wi, beq_self_eq_true, Bool.true_or, Bool.or_true, Bool.or_false, Bool.and_self, Bool.and_true, Bool.true_and, ↓reduceIte, ble_up0, i_cl, i_succ, zix_of, zfl_k, zup_k, zup_q, kb, nb, sb, b0, i_ad2, i_ad3, i_ad4, i_ad5]
  refine ev_ci a1 ?_
  try simp (disch := omega) only [zif, zdr, zkb, mK_wi, mN_wi, mJ_wi, mI_wi, sI_wi, beq_self_eq_true, Bool.true_or, Bool.or_true, Bool.or_false, Bool.and_self, Bool.and_true, Bool.true_and, ble_up0, i_cl, i_succ, zix_of, zfl_k, zup_k, zup_q, k1, n1, s1, k7, i_ad2, i_ad3, i_ad4, i_ad5]
  refine ev_ci a2 ?_
  refine ev_th _ (fun _ => ?_) (fun h => (h (by first | rfl | trivial)).elim)
  exact ev_bk (cl_1083 a3)
theorem cl_dog (hB : E.1 ≤ B) (h : LR E B b n s S I G) (hn : n ≤ 384) (hj : 6 * j + 6 ≤ n) (hN : NX E B b n s j c u S) : ∃ S2 I2, zAt E 14 215 593 [some (zr (some b)), some (zr (some B)), some (zr (some (B + 318))), some (zi (Int32.ofNat (6 * j)))] [] (zwi S I) (Sum.inl (some (zi 1)), zwi S2 I2) ∧ mS S2 ≤ c ∧ mU S2 ≤ u := by
  obtain ⟨⟨hX, hM⟩, ⟨hi, he, hl⟩, -, ⟨hb, kb, nb, sb⟩⟩ := id h
  have b0 := hX.1.1
  obtain ⟨S1, I1, S2, I2, a1, ⟨k1, n1, s1, k7⟩, a2, L2, m2, u2⟩ := h.op (xo_dog hi (s (6 * j + 1)) (s (6 * j + 2)) (s (6 * j + 3))) (mo_dog (by omega) hi (s (6 * j + 1)) (s (6 * j + 2)) (s (6 * j + 3))) ⟨hi, he, hl⟩
  obtain ⟨S3, I3, a3, b3⟩ := hN S2 I2 _ L2 m2 u2
  refine ⟨S3, I3, ?_, b3⟩
  have e0 := @b_L_law_593
  refine zat_in zP_L_law zk_L_law_593 ?_
  simp (disch := omega) only [e0, zif, zdr, zkb, mK_wi, mN_wi, mJ_wi, mI_wi, sI_wi, beq_self_eq_true, Bool.true_or, Bool.or_true, Bool.or_false, Bool.and_self, Bool.and_true, Bool.true_and, ↓reduceIte, ble_up0, i_cl, i_succ, zix_of, zfl_k, zup_k, zup_q, kb, nb, sb, b0, i_ad2, i_ad3, i_ad4, i_ad5]
  refine ev_ci a1 ?_
  try simp (disch := omega) only [zif, zdr, zkb, mK_wi, mN_wi, mJ_wi, mI_wi, sI_wi, beq_self_eq_true, Bool.true_or, Bool.or_true, Bool.or_false, Bool.and_self, Bool.and_true, Bool.true_and, ble_up0, i_cl, i_succ, zix_of, zfl_k, zup_k, zup_q, k1, n1, s1, k7, i_ad2, i_ad3, i_ad4, i_ad5]
  refine ev_ci a2 ?_
  refine ev_th _ (fun _ => ?_) (fun h => (h (by first | rfl | trivial)).elim)
  exact ev_bk (cl_1083 a3)
theorem cl_time (hB : E.1 ≤ B) (h : LR E B b n s S I G) (hn : n ≤ 384) (hj : 6 * j + 6 ≤ n) (hN : NX E B b n s j c u S) : ∃ S2 I2, zAt E 14 215 636 [some (zr (some b)), some (zr (some B)), some (zr (some (B + 318))), some (zi (Int32.ofNat (6 * j)))] [] (zwi S I) (Sum.inl (some (zi 1)), zwi S2 I2) ∧ mS S2 ≤ c ∧ mU S2 ≤ u := by
  obtain ⟨⟨hX, hM⟩, ⟨hi, he, hl⟩, -, ⟨hb, kb, nb, sb⟩⟩ := id h
  have b0 := hX.1.1
  obtain ⟨S1, I1, S2, I2, a1, ⟨k1, n1, s1, k7⟩, a2, L2, m2, u2⟩ := h.op (xo_time hi (s (6 * j + 1)) (s (6 * j + 2)) (if s (6 * j + 3) = 0 then 0 else 1)) (mo_time (by omega) hi (s (6 * j + 1)) (s (6 * j + 2)) (if s (6 * j + 3) = 0 then 0 else 1)) ⟨hi, he, hl⟩
  obtain ⟨S3, I3, a3, b3⟩ := hN S2 I2 _ L2 m2 u2
  refine ⟨S3, I3, ?_, b3⟩
  have e0 := @b_L_law_636
  have e1 := @b_L_law_659
  have e2 := @b_L_law_660
  have e3 := @b_L_law_686
  have e4 := @b_L_law_687
  by_cases c0 : s (6 * j + 3) = 0
  · rw [if_pos c0] at a1 a2
    have c0' := eq_true c0
    refine zat_in zP_L_law zk_L_law_636 ?_
    simp (disch := omega) only [e0, zif, zdr, zkb, mK_wi, mN_wi, mJ_wi, mI_wi, sI_wi, beq_self_eq_true, Bool.true_or, Bool.or_true, Bool.or_false, Bool.and_self, Bool.and_true, Bool.true_and, ↓reduceIte, ble_up0, i_cl, i_succ, zix_of, zfl_k, zup_k, zup_q, kb, nb, sb, b0, i_ad2, i_ad3, i_ad4, i_ad5, c0']
    refine ev_bk ?_
    refine zat_in zP_L_law zk_L_law_659 ?_
    simp only [e1]
    refine ev_tl zP_L_law zk_L_law_660 ?_
    refine zat_in zP_L_law zk_L_law_660 ?_
    simp (disch := omega) only [e2, zif, zdr, zkb, mK_wi, mN_wi, mJ_wi, mI_wi, sI_wi, beq_self_eq_true, Bool.true_or, Bool.or_true, Bool.or_false, Bool.and_self, Bool.and_true, Bool.true_and, ↓reduceIte, ble_up0, i_cl, i_succ, zix_of, zfl_k, zup_k, zup_q, b0]
    refine ev_ci a1 ?_
    try simp (disch := omega) only [zif, zdr, zkb, mK_wi, mN_wi, mJ_wi, mI_wi, sI_wi, beq_self_eq_true, Bool.true_or, Bool.or_true, Bool.or_false, Bool.and_self, Bool.and_true, Bool.true_and, ↓reduceIte, ble_up0, i_cl, i_succ, zix_of, zfl_k, zup_k, zup_q, k1, n1, s1, k7, i_ad2, i_ad3, i_ad4, i_ad5, c0']
    refine ev_bk ?_
    refine zat_in zP_L_law zk_L_law_686 ?_
    simp only [e3]
    refine ev_tl zP_L_law zk_L_law_687 ?_
    refine zat_in zP_L_law zk_L_law_687 ?_
    simp (disch := omega) only [e4, zif, zdr, zkb, mK_wi, mN_wi, mJ_wi, mI_wi, sI_wi, beq_self_eq_true, Bool.true_or, Bool.or_true, Bool.or_false, Bool.and_self, Bool.and_true, Bool.true_and, ↓reduceIte, ble_up0, i_cl, i_succ, zix_of, zfl_k, zup_k, zup_q, k7]
    refine ev_ci a2 ?_
    refine ev_th _ (fun _ => ?_) (fun h => (h (by first | rfl | trivial)).elim)
    exact ev_bk (cl_1083 a3)
  · rw [if_neg c0] at a1 a2
    have c0' := eq_false c0
    refine zat_in zP_L_law zk_L_law_636 ?_
    simp (disch := omega) only [e0, zif, zdr, zkb, mK_wi, mN_wi, mJ_wi, mI_wi, sI_wi, beq_self_eq_true, Bool.true_or, Bool.or_true, Bool.or_false, Bool.and_self, Bool.and_true, Bool.true_and, ↓reduceIte, ble_up0, i_cl, i_succ, zix_of, zfl_k, zup_k, zup_q, kb, nb, sb, b0, i_ad2, i_ad3, i_ad4, i_ad5, c0']
    refine ev_bk ?_
    refine zat_in zP_L_law zk_L_law_660 ?_
    simp (disch := omega) only [e2, zif, zdr, zkb, mK_wi, mN_wi, mJ_wi, mI_wi, sI_wi, beq_self_eq_true, Bool.true_or, Bool.or_true, Bool.or_false, Bool.and_self, Bool.and_true, Bool.true_and, ↓reduceIte, ble_up0, i_cl, i_succ, zix_of, zfl_k, zup_k, zup_q, b0]
    refine ev_ci a1 ?_
    try simp (disch := omega) only [zif, zdr, zkb, mK_wi, mN_wi, mJ_wi, mI_wi, sI_wi, beq_self_eq_true, Bool.true_or, Bool.or_true, Bool.or_false, Bool.and_self, Bool.and_true, Bool.true_and, ↓reduceIte, ble_up0, i_cl, i_succ, zix_of, zfl_k, zup_k, zup_q, k1, n1, s1, k7, i_ad2, i_ad3, i_ad4, i_ad5, c0']
    refine ev_bk ?_
    refine zat_in zP_L_law zk_L_law_687 ?_
    simp (disch := omega) only [e4, zif, zdr, zkb, mK_wi, mN_wi, mJ_wi, mI_wi, sI_wi, beq_self_eq_true, Bool.true_or, Bool.or_true, Bool.or_false, Bool.and_self, Bool.and_true, Bool.true_and, ↓reduceIte, ble_up0, i_cl, i_succ, zix_of, zfl_k, zup_k, zup_q, k7]
    refine ev_ci a2 ?_
    refine ev_th _ (fun _ => ?_) (fun h => (h (by first | rfl | trivial)).elim)
    exact ev_bk (cl_1083 a3)
theorem cl_did (hB : E.1 ≤ B) (h : LR E B b n s S I G) (hn : n ≤ 384) (hj : 6 * j + 6 ≤ n) (hN : NX E B b n s j c u S) : ∃ S2 I2, zAt E 14 215 695 [some (zr (some b)), some (zr (some B)), some (zr (some (B + 318))), some (zi (Int32.ofNat (6 * j)))] [] (zwi S I) (Sum.inl (some (zi 1)), zwi S2 I2) ∧ mS S2 ≤ c ∧ mU S2 ≤ u := by
  obtain ⟨⟨hX, hM⟩, ⟨hi, he, hl⟩, -, ⟨hb, kb, nb, sb⟩⟩ := id h
  have b0 := hX.1.1
  obtain ⟨S1, I1, S2, I2, a1, ⟨k1, n1, s1, k7⟩, a2, L2, m2, u2⟩ := h.op (xo_did hi (s (6 * j + 1))) (mo_did (by omega) hi (s (6 * j + 1))) ⟨hi, he, hl⟩
  obtain ⟨S3, I3, a3, b3⟩ := hN S2 I2 _ L2 m2 u2
  refine ⟨S3, I3, ?_, b3⟩
  have e0 := @b_L_law_695
  refine zat_in zP_L_law zk_L_law_695 ?_
  simp (disch := omega) only [e0, zif, zdr, zkb, mK_wi, mN_wi, mJ_wi, mI_wi, sI_wi, beq_self_eq_true, Bool.true_or, Bool.or_true, Bool.or_false, Bool.and_self, Bool.and_true, Bool.true_and, ↓reduceIte, ble_up0, i_cl, i_succ, zix_of, zfl_k, zup_k, zup_q, kb, nb, sb, b0, i_ad2, i_ad3, i_ad4, i_ad5]
  refine ev_ci a1 ?_
  try simp (disch := omega) only [zif, zdr, zkb, mK_wi, mN_wi, mJ_wi, mI_wi, sI_wi, beq_self_eq_true, Bool.true_or, Bool.or_true, Bool.or_false, Bool.and_self, Bool.and_true, Bool.true_and, ble_up0, i_cl, i_succ, zix_of, zfl_k, zup_k, zup_q, k1, n1, s1, k7, i_ad2, i_ad3, i_ad4, i_ad5]
  refine ev_ci a2 ?_
  refine ev_th _ (fun _ => ?_) (fun h => (h (by first | rfl | trivial)).elim)
  exact ev_bk (cl_1083 a3)
theorem cl_result (hB : E.1 ≤ B) (h : LR E B b n s S I G) (hn : n ≤ 384) (hj : 6 * j + 6 ≤ n) (hN : NX E B b n s j c u S) : ∃ S2 I2, zAt E 14 215 718 [some (zr (some b)), some (zr (some B)), some (zr (some (B + 318))), some (zi (Int32.ofNat (6 * j)))] [] (zwi S I) (Sum.inl (some (zi 1)), zwi S2 I2) ∧ mS S2 ≤ c ∧ mU S2 ≤ u := by
  obtain ⟨⟨hX, hM⟩, ⟨hi, he, hl⟩, -, ⟨hb, kb, nb, sb⟩⟩ := id h
  have b0 := hX.1.1
  obtain ⟨S1, I1, S2, I2, a1, ⟨k1, n1, s1, k7⟩, a2, L2, m2, u2⟩ := h.op (xo_result hi hl (s (6 * j + 1))) (mo_result (by omega) hi hl (s (6 * j + 1))) ⟨hi, he, hl⟩
  obtain ⟨S3, I3, a3, b3⟩ := hN S2 I2 _ L2 m2 u2
  refine ⟨S3, I3, ?_, b3⟩
  have e0 := @b_L_law_718
  refine zat_in zP_L_law zk_L_law_718 ?_
  simp (disch := omega) only [e0, zif, zdr, zkb, mK_wi, mN_wi, mJ_wi, mI_wi, sI_wi, beq_self_eq_true, Bool.true_or, Bool.or_true, Bool.or_false, Bool.and_self, Bool.and_true, Bool.true_and, ↓reduceIte, ble_up0, i_cl, i_succ, zix_of, zfl_k, zup_k, zup_q, kb, nb, sb, b0, i_ad2, i_ad3, i_ad4, i_ad5]
  refine ev_ci a1 ?_
  try simp (disch := omega) only [zif, zdr, zkb, mK_wi, mN_wi, mJ_wi, mI_wi, sI_wi, beq_self_eq_true, Bool.true_or, Bool.or_true, Bool.or_false, Bool.and_self, Bool.and_true, Bool.true_and, ble_up0, i_cl, i_succ, zix_of, zfl_k, zup_k, zup_q, k1, n1, s1, k7, i_ad2, i_ad3, i_ad4, i_ad5]
  refine ev_ci a2 ?_
  refine ev_th _ (fun _ => ?_) (fun h => (h (by first | rfl | trivial)).elim)
  exact ev_bk (cl_1083 a3)
theorem cl_lacks (hB : E.1 ≤ B) (h : LR E B b n s S I G) (hn : n ≤ 384) (hj : 6 * j + 6 ≤ n) (hN : NX E B b n s j c u S) : ∃ S2 I2, zAt E 14 215 741 [some (zr (some b)), some (zr (some B)), some (zr (some (B + 318))), some (zi (Int32.ofNat (6 * j)))] [] (zwi S I) (Sum.inl (some (zi 1)), zwi S2 I2) ∧ mS S2 ≤ c ∧ mU S2 ≤ u := by
  obtain ⟨⟨hX, hM⟩, ⟨hi, he, hl⟩, -, ⟨hb, kb, nb, sb⟩⟩ := id h
  have b0 := hX.1.1
  obtain ⟨S1, I1, S2, I2, a1, ⟨k1, n1, s1, k7⟩, a2, L2, m2, u2⟩ := h.op (xo_lacks hi hl (s (6 * j + 1)) (s (6 * j + 2))) (mo_lacks (by omega) hi hl (s (6 * j + 1)) (s (6 * j + 2))) ⟨hi, he, hl⟩
  obtain ⟨S3, I3, a3, b3⟩ := hN S2 I2 _ L2 m2 u2
  refine ⟨S3, I3, ?_, b3⟩
  have e0 := @b_L_law_741
  refine zat_in zP_L_law zk_L_law_741 ?_
  simp (disch := omega) only [e0, zif, zdr, zkb, mK_wi, mN_wi, mJ_wi, mI_wi, sI_wi, beq_self_eq_true, Bool.true_or, Bool.or_true, Bool.or_false, Bool.and_self, Bool.and_true, Bool.true_and, ↓reduceIte, ble_up0, i_cl, i_succ, zix_of, zfl_k, zup_k, zup_q, kb, nb, sb, b0, i_ad2, i_ad3, i_ad4, i_ad5]
  refine ev_ci a1 ?_
  try simp (disch := omega) only [zif, zdr, zkb, mK_wi, mN_wi, mJ_wi, mI_wi, sI_wi, beq_self_eq_true, Bool.true_or, Bool.or_true, Bool.or_false, Bool.and_self, Bool.and_true, Bool.true_and, ble_up0, i_cl, i_succ, zix_of, zfl_k, zup_k, zup_q, k1, n1, s1, k7, i_ad2, i_ad3, i_ad4, i_ad5]
  refine ev_ci a2 ?_
  refine ev_th _ (fun _ => ?_) (fun h => (h (by first | rfl | trivial)).elim)
  exact ev_bk (cl_1083 a3)
theorem cl_place (hB : E.1 ≤ B) (h : LR E B b n s S I G) (hn : n ≤ 384) (hj : 6 * j + 6 ≤ n) (hN : NX E B b n s j c u S) : ∃ S2 I2, zAt E 14 215 774 [some (zr (some b)), some (zr (some B)), some (zr (some (B + 318))), some (zi (Int32.ofNat (6 * j)))] [] (zwi S I) (Sum.inl (some (zi 1)), zwi S2 I2) ∧ mS S2 ≤ c ∧ mU S2 ≤ u := by
  obtain ⟨⟨hX, hM⟩, ⟨hi, he, hl⟩, -, ⟨hb, kb, nb, sb⟩⟩ := id h
  have b0 := hX.1.1
  obtain ⟨S1, I1, S2, I2, a1, ⟨k1, n1, s1, k7⟩, a2, L2, m2, u2⟩ := h.op (xo_place hB hi hl (s (6 * j + 1))) (mo_place (by omega) hi hl (s (6 * j + 1))) ⟨hi, he, hl⟩
  obtain ⟨S3, I3, a3, b3⟩ := hN S2 I2 _ L2 m2 u2
  refine ⟨S3, I3, ?_, b3⟩
  have e0 := @b_L_law_774
  refine zat_in zP_L_law zk_L_law_774 ?_
  simp (disch := omega) only [e0, zif, zdr, zkb, mK_wi, mN_wi, mJ_wi, mI_wi, sI_wi, beq_self_eq_true, Bool.true_or, Bool.or_true, Bool.or_false, Bool.and_self, Bool.and_true, Bool.true_and, ↓reduceIte, ble_up0, i_cl, i_succ, zix_of, zfl_k, zup_k, zup_q, kb, nb, sb, b0, i_ad2, i_ad3, i_ad4, i_ad5]
  refine ev_ci a1 ?_
  try simp (disch := omega) only [zif, zdr, zkb, mK_wi, mN_wi, mJ_wi, mI_wi, sI_wi, beq_self_eq_true, Bool.true_or, Bool.or_true, Bool.or_false, Bool.and_self, Bool.and_true, Bool.true_and, ble_up0, i_cl, i_succ, zix_of, zfl_k, zup_k, zup_q, k1, n1, s1, k7, i_ad2, i_ad3, i_ad4, i_ad5]
  refine ev_ci a2 ?_
  refine ev_th _ (fun _ => ?_) (fun h => (h (by first | rfl | trivial)).elim)
  exact ev_bk (cl_1083 a3)
theorem cl_came (hB : E.1 ≤ B) (h : LR E B b n s S I G) (hn : n ≤ 384) (hj : 6 * j + 6 ≤ n) (hN : NX E B b n s j c u S) : ∃ S2 I2, zAt E 14 215 797 [some (zr (some b)), some (zr (some B)), some (zr (some (B + 318))), some (zi (Int32.ofNat (6 * j)))] [] (zwi S I) (Sum.inl (some (zi 1)), zwi S2 I2) ∧ mS S2 ≤ c ∧ mU S2 ≤ u := by
  obtain ⟨⟨hX, hM⟩, ⟨hi, he, hl⟩, -, ⟨hb, kb, nb, sb⟩⟩ := id h
  have b0 := hX.1.1
  obtain ⟨S1, I1, S2, I2, a1, ⟨k1, n1, s1, k7⟩, a2, L2, m2, u2⟩ := h.op (xo_came hi (s (6 * j + 1)) (s (6 * j + 2))) (mo_came (by omega) hi (s (6 * j + 1)) (s (6 * j + 2))) ⟨hi, he, hl⟩
  obtain ⟨S3, I3, a3, b3⟩ := hN S2 I2 _ L2 m2 u2
  refine ⟨S3, I3, ?_, b3⟩
  have e0 := @b_L_law_797
  refine zat_in zP_L_law zk_L_law_797 ?_
  simp (disch := omega) only [e0, zif, zdr, zkb, mK_wi, mN_wi, mJ_wi, mI_wi, sI_wi, beq_self_eq_true, Bool.true_or, Bool.or_true, Bool.or_false, Bool.and_self, Bool.and_true, Bool.true_and, ↓reduceIte, ble_up0, i_cl, i_succ, zix_of, zfl_k, zup_k, zup_q, kb, nb, sb, b0, i_ad2, i_ad3, i_ad4, i_ad5]
  refine ev_ci a1 ?_
  try simp (disch := omega) only [zif, zdr, zkb, mK_wi, mN_wi, mJ_wi, mI_wi, sI_wi, beq_self_eq_true, Bool.true_or, Bool.or_true, Bool.or_false, Bool.and_self, Bool.and_true, Bool.true_and, ble_up0, i_cl, i_succ, zix_of, zfl_k, zup_k, zup_q, k1, n1, s1, k7, i_ad2, i_ad3, i_ad4, i_ad5]
  refine ev_ci a2 ?_
  refine ev_th _ (fun _ => ?_) (fun h => (h (by first | rfl | trivial)).elim)
  exact ev_bk (cl_1083 a3)
theorem cl_spot (hB : E.1 ≤ B) (h : LR E B b n s S I G) (hn : n ≤ 384) (hj : 6 * j + 6 ≤ n) (hN : NX E B b n s j c u S) : ∃ S2 I2, zAt E 14 215 830 [some (zr (some b)), some (zr (some B)), some (zr (some (B + 318))), some (zi (Int32.ofNat (6 * j)))] [] (zwi S I) (Sum.inl (some (zi 1)), zwi S2 I2) ∧ mS S2 ≤ c ∧ mU S2 ≤ u := by
  obtain ⟨⟨hX, hM⟩, ⟨hi, he, hl⟩, -, ⟨hb, kb, nb, sb⟩⟩ := id h
  have b0 := hX.1.1
  obtain ⟨S1, I1, S2, I2, a1, ⟨k1, n1, s1, k7⟩, a2, L2, m2, u2⟩ := h.op (xo_spot hi (s (6 * j + 1)) (s (6 * j + 2)) (if s (6 * j + 3) = 0 then 0 else 1)) (mo_spot (by omega) hi (s (6 * j + 1)) (s (6 * j + 2)) (if s (6 * j + 3) = 0 then 0 else 1)) ⟨hi, he, hl⟩
  obtain ⟨S3, I3, a3, b3⟩ := hN S2 I2 _ L2 m2 u2
  refine ⟨S3, I3, ?_, b3⟩
  have e0 := @b_L_law_830
  have e1 := @b_L_law_853
  have e2 := @b_L_law_854
  have e3 := @b_L_law_880
  have e4 := @b_L_law_881
  by_cases c0 : s (6 * j + 3) = 0
  · rw [if_pos c0] at a1 a2
    have c0' := eq_true c0
    refine zat_in zP_L_law zk_L_law_830 ?_
    simp (disch := omega) only [e0, zif, zdr, zkb, mK_wi, mN_wi, mJ_wi, mI_wi, sI_wi, beq_self_eq_true, Bool.true_or, Bool.or_true, Bool.or_false, Bool.and_self, Bool.and_true, Bool.true_and, ↓reduceIte, ble_up0, i_cl, i_succ, zix_of, zfl_k, zup_k, zup_q, kb, nb, sb, b0, i_ad2, i_ad3, i_ad4, i_ad5, c0']
    refine ev_bk ?_
    refine zat_in zP_L_law zk_L_law_853 ?_
    simp only [e1]
    refine ev_tl zP_L_law zk_L_law_854 ?_
    refine zat_in zP_L_law zk_L_law_854 ?_
    simp (disch := omega) only [e2, zif, zdr, zkb, mK_wi, mN_wi, mJ_wi, mI_wi, sI_wi, beq_self_eq_true, Bool.true_or, Bool.or_true, Bool.or_false, Bool.and_self, Bool.and_true, Bool.true_and, ↓reduceIte, ble_up0, i_cl, i_succ, zix_of, zfl_k, zup_k, zup_q, b0]
    refine ev_ci a1 ?_
    try simp (disch := omega) only [zif, zdr, zkb, mK_wi, mN_wi, mJ_wi, mI_wi, sI_wi, beq_self_eq_true, Bool.true_or, Bool.or_true, Bool.or_false, Bool.and_self, Bool.and_true, Bool.true_and, ↓reduceIte, ble_up0, i_cl, i_succ, zix_of, zfl_k, zup_k, zup_q, k1, n1, s1, k7, i_ad2, i_ad3, i_ad4, i_ad5, c0']
    refine ev_bk ?_
    refine zat_in zP_L_law zk_L_law_880 ?_
    simp only [e3]
    refine ev_tl zP_L_law zk_L_law_881 ?_
    refine zat_in zP_L_law zk_L_law_881 ?_
    simp (disch := omega) only [e4, zif, zdr, zkb, mK_wi, mN_wi, mJ_wi, mI_wi, sI_wi, beq_self_eq_true, Bool.true_or, Bool.or_true, Bool.or_false, Bool.and_self, Bool.and_true, Bool.true_and, ↓reduceIte, ble_up0, i_cl, i_succ, zix_of, zfl_k, zup_k, zup_q, k7]
    refine ev_ci a2 ?_
    refine ev_th _ (fun _ => ?_) (fun h => (h (by first | rfl | trivial)).elim)
    exact ev_bk (cl_1083 a3)
  · rw [if_neg c0] at a1 a2
    have c0' := eq_false c0
    refine zat_in zP_L_law zk_L_law_830 ?_
    simp (disch := omega) only [e0, zif, zdr, zkb, mK_wi, mN_wi, mJ_wi, mI_wi, sI_wi, beq_self_eq_true, Bool.true_or, Bool.or_true, Bool.or_false, Bool.and_self, Bool.and_true, Bool.true_and, ↓reduceIte, ble_up0, i_cl, i_succ, zix_of, zfl_k, zup_k, zup_q, kb, nb, sb, b0, i_ad2, i_ad3, i_ad4, i_ad5, c0']
    refine ev_bk ?_
    refine zat_in zP_L_law zk_L_law_854 ?_
    simp (disch := omega) only [e2, zif, zdr, zkb, mK_wi, mN_wi, mJ_wi, mI_wi, sI_wi, beq_self_eq_true, Bool.true_or, Bool.or_true, Bool.or_false, Bool.and_self, Bool.and_true, Bool.true_and, ↓reduceIte, ble_up0, i_cl, i_succ, zix_of, zfl_k, zup_k, zup_q, b0]
    refine ev_ci a1 ?_
    try simp (disch := omega) only [zif, zdr, zkb, mK_wi, mN_wi, mJ_wi, mI_wi, sI_wi, beq_self_eq_true, Bool.true_or, Bool.or_true, Bool.or_false, Bool.and_self, Bool.and_true, Bool.true_and, ↓reduceIte, ble_up0, i_cl, i_succ, zix_of, zfl_k, zup_k, zup_q, k1, n1, s1, k7, i_ad2, i_ad3, i_ad4, i_ad5, c0']
    refine ev_bk ?_
    refine zat_in zP_L_law zk_L_law_881 ?_
    simp (disch := omega) only [e4, zif, zdr, zkb, mK_wi, mN_wi, mJ_wi, mI_wi, sI_wi, beq_self_eq_true, Bool.true_or, Bool.or_true, Bool.or_false, Bool.and_self, Bool.and_true, Bool.true_and, ↓reduceIte, ble_up0, i_cl, i_succ, zix_of, zfl_k, zup_k, zup_q, k7]
    refine ev_ci a2 ?_
    refine ev_th _ (fun _ => ?_) (fun h => (h (by first | rfl | trivial)).elim)
    exact ev_bk (cl_1083 a3)
theorem cl_signs (hB : E.1 ≤ B) (h : LR E B b n s S I G) (hn : n ≤ 384) (hj : 6 * j + 6 ≤ n) (hN : NX E B b n s j c u S) : ∃ S2 I2, zAt E 14 215 889 [some (zr (some b)), some (zr (some B)), some (zr (some (B + 318))), some (zi (Int32.ofNat (6 * j)))] [] (zwi S I) (Sum.inl (some (zi 1)), zwi S2 I2) ∧ mS S2 ≤ c ∧ mU S2 ≤ u := by
  obtain ⟨⟨hX, hM⟩, ⟨hi, he, hl⟩, -, ⟨hb, kb, nb, sb⟩⟩ := id h
  have b0 := hX.1.1
  obtain ⟨S1, I1, S2, I2, a1, ⟨k1, n1, s1, k7⟩, a2, L2, m2, u2⟩ := h.op (xo_signs hi (s (6 * j + 1))) (mo_signs (by omega) hi (s (6 * j + 1))) ⟨hi, he, hl⟩
  obtain ⟨S3, I3, a3, b3⟩ := hN S2 I2 _ L2 m2 u2
  refine ⟨S3, I3, ?_, b3⟩
  have e0 := @b_L_law_889
  refine zat_in zP_L_law zk_L_law_889 ?_
  simp (disch := omega) only [e0, zif, zdr, zkb, mK_wi, mN_wi, mJ_wi, mI_wi, sI_wi, beq_self_eq_true, Bool.true_or, Bool.or_true, Bool.or_false, Bool.and_self, Bool.and_true, Bool.true_and, ↓reduceIte, ble_up0, i_cl, i_succ, zix_of, zfl_k, zup_k, zup_q, kb, nb, sb, b0, i_ad2, i_ad3, i_ad4, i_ad5]
  refine ev_ci a1 ?_
  try simp (disch := omega) only [zif, zdr, zkb, mK_wi, mN_wi, mJ_wi, mI_wi, sI_wi, beq_self_eq_true, Bool.true_or, Bool.or_true, Bool.or_false, Bool.and_self, Bool.and_true, Bool.true_and, ble_up0, i_cl, i_succ, zix_of, zfl_k, zup_k, zup_q, k1, n1, s1, k7, i_ad2, i_ad3, i_ad4, i_ad5]
  refine ev_ci a2 ?_
  refine ev_th _ (fun _ => ?_) (fun h => (h (by first | rfl | trivial)).elim)
  exact ev_bk (cl_1083 a3)
theorem cl_replay (hB : E.1 ≤ B) (h : LR E B b n s S I G) (hn : n ≤ 384) (hj : 6 * j + 6 ≤ n) (hN : NX E B b n s j c u S) : ∃ S2 I2, zAt E 14 215 912 [some (zr (some b)), some (zr (some B)), some (zr (some (B + 318))), some (zi (Int32.ofNat (6 * j)))] [] (zwi S I) (Sum.inl (some (zi 1)), zwi S2 I2) ∧ mS S2 ≤ c ∧ mU S2 ≤ u := by
  obtain ⟨⟨hX, hM⟩, ⟨hi, he, hl⟩, -, ⟨hb, kb, nb, sb⟩⟩ := id h
  have b0 := hX.1.1
  obtain ⟨S1, I1, S2, I2, a1, ⟨k1, n1, s1, k7⟩, a2, L2, m2, u2⟩ := h.op (xo_replay hB hi he (s (6 * j + 1)) (s (6 * j + 2)) (s (6 * j + 3))) (mo_replay (by omega) hi he (s (6 * j + 1)) (s (6 * j + 2)) (s (6 * j + 3))) ⟨iReplay hi _ _ _, he.replay _ _ _, hl.replay _ _ _⟩
  obtain ⟨S3, I3, a3, b3⟩ := hN S2 I2 _ L2 m2 u2
  refine ⟨S3, I3, ?_, b3⟩
  have e0 := @b_L_law_912
  refine zat_in zP_L_law zk_L_law_912 ?_
  simp (disch := omega) only [e0, zif, zdr, zkb, mK_wi, mN_wi, mJ_wi, mI_wi, sI_wi, beq_self_eq_true, Bool.true_or, Bool.or_true, Bool.or_false, Bool.and_self, Bool.and_true, Bool.true_and, ↓reduceIte, ble_up0, i_cl, i_succ, zix_of, zfl_k, zup_k, zup_q, kb, nb, sb, b0, i_ad2, i_ad3, i_ad4, i_ad5]
  refine ev_ci a1 ?_
  try simp (disch := omega) only [zif, zdr, zkb, mK_wi, mN_wi, mJ_wi, mI_wi, sI_wi, beq_self_eq_true, Bool.true_or, Bool.or_true, Bool.or_false, Bool.and_self, Bool.and_true, Bool.true_and, ble_up0, i_cl, i_succ, zix_of, zfl_k, zup_k, zup_q, k1, n1, s1, k7, i_ad2, i_ad3, i_ad4, i_ad5]
  refine ev_ci a2 ?_
  refine ev_th _ (fun _ => ?_) (fun h => (h (by first | rfl | trivial)).elim)
  exact ev_bk (cl_1083 a3)
theorem cl_keep (hB : E.1 ≤ B) (h : LR E B b n s S I G) (hn : n ≤ 384) (hj : 6 * j + 6 ≤ n) (hN : NX E B b n s j c u S) : ∃ S2 I2, zAt E 14 215 955 [some (zr (some b)), some (zr (some B)), some (zr (some (B + 318))), some (zi (Int32.ofNat (6 * j)))] [] (zwi S I) (Sum.inl (some (zi 1)), zwi S2 I2) ∧ mS S2 ≤ c ∧ mU S2 ≤ u := by
  obtain ⟨⟨hX, hM⟩, ⟨hi, he, hl⟩, -, ⟨hb, kb, nb, sb⟩⟩ := id h
  have b0 := hX.1.1
  obtain ⟨S1, I1, S2, I2, a1, ⟨k1, n1, s1, k7⟩, a2, L2, m2, u2⟩ := h.op (xo_keep hB hi) (mo_keep (by omega) hi) ⟨iKeep hi, he.keep, hl.keep⟩
  obtain ⟨S3, I3, a3, b3⟩ := hN S2 I2 _ L2 m2 u2
  refine ⟨S3, I3, ?_, b3⟩
  have e0 := @b_L_law_955
  refine zat_in zP_L_law zk_L_law_955 ?_
  simp (disch := omega) only [e0, zif, zdr, zkb, mK_wi, mN_wi, mJ_wi, mI_wi, sI_wi, beq_self_eq_true, Bool.true_or, Bool.or_true, Bool.or_false, Bool.and_self, Bool.and_true, Bool.true_and, ↓reduceIte, ble_up0, i_cl, i_succ, zix_of, zfl_k, zup_k, zup_q, kb, nb, sb, b0, i_ad2, i_ad3, i_ad4, i_ad5]
  refine ev_ci a1 ?_
  try simp (disch := omega) only [zif, zdr, zkb, mK_wi, mN_wi, mJ_wi, mI_wi, sI_wi, beq_self_eq_true, Bool.true_or, Bool.or_true, Bool.or_false, Bool.and_self, Bool.and_true, Bool.true_and, ble_up0, i_cl, i_succ, zix_of, zfl_k, zup_k, zup_q, k1, n1, s1, k7, i_ad2, i_ad3, i_ad4, i_ad5]
  refine ev_ci a2 ?_
  refine ev_th _ (fun _ => ?_) (fun h => (h (by first | rfl | trivial)).elim)
  exact ev_bk (cl_1083 a3)
theorem cl_back (hB : E.1 ≤ B) (h : LR E B b n s S I G) (hn : n ≤ 384) (hj : 6 * j + 6 ≤ n) (hN : NX E B b n s j c u S) : ∃ S2 I2, zAt E 14 215 968 [some (zr (some b)), some (zr (some B)), some (zr (some (B + 318))), some (zi (Int32.ofNat (6 * j)))] [] (zwi S I) (Sum.inl (some (zi 1)), zwi S2 I2) ∧ mS S2 ≤ c ∧ mU S2 ≤ u := by
  obtain ⟨⟨hX, hM⟩, ⟨hi, he, hl⟩, -, ⟨hb, kb, nb, sb⟩⟩ := id h
  have b0 := hX.1.1
  obtain ⟨S1, I1, S2, I2, a1, ⟨k1, n1, s1, k7⟩, a2, L2, m2, u2⟩ := h.op (xo_back hB hi) (mo_back (by omega) hi) ⟨iBack hi, he.back, hl.back⟩
  obtain ⟨S3, I3, a3, b3⟩ := hN S2 I2 _ L2 m2 u2
  refine ⟨S3, I3, ?_, b3⟩
  have e0 := @b_L_law_968
  refine zat_in zP_L_law zk_L_law_968 ?_
  simp (disch := omega) only [e0, zif, zdr, zkb, mK_wi, mN_wi, mJ_wi, mI_wi, sI_wi, beq_self_eq_true, Bool.true_or, Bool.or_true, Bool.or_false, Bool.and_self, Bool.and_true, Bool.true_and, ↓reduceIte, ble_up0, i_cl, i_succ, zix_of, zfl_k, zup_k, zup_q, kb, nb, sb, b0, i_ad2, i_ad3, i_ad4, i_ad5]
  refine ev_ci a1 ?_
  try simp (disch := omega) only [zif, zdr, zkb, mK_wi, mN_wi, mJ_wi, mI_wi, sI_wi, beq_self_eq_true, Bool.true_or, Bool.or_true, Bool.or_false, Bool.and_self, Bool.and_true, Bool.true_and, ble_up0, i_cl, i_succ, zix_of, zfl_k, zup_k, zup_q, k1, n1, s1, k7, i_ad2, i_ad3, i_ad4, i_ad5]
  refine ev_ci a2 ?_
  refine ev_th _ (fun _ => ?_) (fun h => (h (by first | rfl | trivial)).elim)
  exact ev_bk (cl_1083 a3)
theorem cl_law (hB : E.1 ≤ B) (h : LR E B b n s S I G) (hn : n ≤ 384) (hj : 6 * j + 6 ≤ n) (hN : NX E B b n s j c u S) : ∃ S2 I2, zAt E 14 215 981 [some (zr (some b)), some (zr (some B)), some (zr (some (B + 318))), some (zi (Int32.ofNat (6 * j)))] [] (zwi S I) (Sum.inl (some (zi 1)), zwi S2 I2) ∧ mS S2 ≤ c ∧ mU S2 ≤ u := by
  obtain ⟨⟨hX, hM⟩, ⟨hi, he, hl⟩, -, ⟨hb, kb, nb, sb⟩⟩ := id h
  have b0 := hX.1.1
  obtain ⟨S1, I1, S2, I2, a1, ⟨k1, n1, s1, k7⟩, a2, L2, m2, u2⟩ := h.op (xo_law hi (s (6 * j + 1)) (s (6 * j + 2))) (mo_law (by omega) hi (s (6 * j + 1)) (s (6 * j + 2))) ⟨hi, he, hl⟩
  obtain ⟨S3, I3, a3, b3⟩ := hN S2 I2 _ L2 m2 u2
  refine ⟨S3, I3, ?_, b3⟩
  have e0 := @b_L_law_981
  refine zat_in zP_L_law zk_L_law_981 ?_
  simp (disch := omega) only [e0, zif, zdr, zkb, mK_wi, mN_wi, mJ_wi, mI_wi, sI_wi, beq_self_eq_true, Bool.true_or, Bool.or_true, Bool.or_false, Bool.and_self, Bool.and_true, Bool.true_and, ↓reduceIte, ble_up0, i_cl, i_succ, zix_of, zfl_k, zup_k, zup_q, kb, nb, sb, b0, i_ad2, i_ad3, i_ad4, i_ad5]
  refine ev_ci a1 ?_
  try simp (disch := omega) only [zif, zdr, zkb, mK_wi, mN_wi, mJ_wi, mI_wi, sI_wi, beq_self_eq_true, Bool.true_or, Bool.or_true, Bool.or_false, Bool.and_self, Bool.and_true, Bool.true_and, ble_up0, i_cl, i_succ, zix_of, zfl_k, zup_k, zup_q, k1, n1, s1, k7, i_ad2, i_ad3, i_ad4, i_ad5]
  refine ev_ci a2 ?_
  refine ev_th _ (fun _ => ?_) (fun h => (h (by first | rfl | trivial)).elim)
  exact ev_bk (cl_1083 a3)
theorem cl_planned (hB : E.1 ≤ B) (h : LR E B b n s S I G) (hn : n ≤ 384) (hj : 6 * j + 6 ≤ n) (hN : NX E B b n s j c u S) : ∃ S2 I2, zAt E 14 215 1014 [some (zr (some b)), some (zr (some B)), some (zr (some (B + 318))), some (zi (Int32.ofNat (6 * j)))] [] (zwi S I) (Sum.inl (some (zi 1)), zwi S2 I2) ∧ mS S2 ≤ c ∧ mU S2 ≤ u := by
  obtain ⟨⟨hX, hM⟩, ⟨hi, he, hl⟩, -, ⟨hb, kb, nb, sb⟩⟩ := id h
  have b0 := hX.1.1
  obtain ⟨S1, I1, S2, I2, a1, ⟨k1, n1, s1, k7⟩, a2, L2, m2, u2⟩ := h.op (xo_planned hi (s (6 * j + 1)) (s (6 * j + 2))) (mo_planned (by omega) hi (s (6 * j + 1)) (s (6 * j + 2))) ⟨hi, he, hl⟩
  obtain ⟨S3, I3, a3, b3⟩ := hN S2 I2 _ L2 m2 u2
  refine ⟨S3, I3, ?_, b3⟩
  have e0 := @b_L_law_1014
  refine zat_in zP_L_law zk_L_law_1014 ?_
  simp (disch := omega) only [e0, zif, zdr, zkb, mK_wi, mN_wi, mJ_wi, mI_wi, sI_wi, beq_self_eq_true, Bool.true_or, Bool.or_true, Bool.or_false, Bool.and_self, Bool.and_true, Bool.true_and, ↓reduceIte, ble_up0, i_cl, i_succ, zix_of, zfl_k, zup_k, zup_q, kb, nb, sb, b0, i_ad2, i_ad3, i_ad4, i_ad5]
  refine ev_ci a1 ?_
  try simp (disch := omega) only [zif, zdr, zkb, mK_wi, mN_wi, mJ_wi, mI_wi, sI_wi, beq_self_eq_true, Bool.true_or, Bool.or_true, Bool.or_false, Bool.and_self, Bool.and_true, Bool.true_and, ble_up0, i_cl, i_succ, zix_of, zfl_k, zup_k, zup_q, k1, n1, s1, k7, i_ad2, i_ad3, i_ad4, i_ad5]
  refine ev_ci a2 ?_
  refine ev_th _ (fun _ => ?_) (fun h => (h (by first | rfl | trivial)).elim)
  exact ev_bk (cl_1083 a3)
theorem cl_count (hB : E.1 ≤ B) (h : LR E B b n s S I G) (hn : n ≤ 384) (hj : 6 * j + 6 ≤ n) (hN : NX E B b n s j c u S) : ∃ S2 I2, zAt E 14 215 1047 [some (zr (some b)), some (zr (some B)), some (zr (some (B + 318))), some (zi (Int32.ofNat (6 * j)))] [] (zwi S I) (Sum.inl (some (zi 1)), zwi S2 I2) ∧ mS S2 ≤ c ∧ mU S2 ≤ u := by
  obtain ⟨⟨hX, hM⟩, ⟨hi, he, hl⟩, -, ⟨hb, kb, nb, sb⟩⟩ := id h
  have b0 := hX.1.1
  obtain ⟨S1, I1, S2, I2, a1, ⟨k1, n1, s1, k7⟩, a2, L2, m2, u2⟩ := h.op (xo_count hi (s (6 * j + 1))) (mo_count (by omega) hi (s (6 * j + 1))) ⟨hi, he, hl⟩
  obtain ⟨S3, I3, a3, b3⟩ := hN S2 I2 _ L2 m2 u2
  refine ⟨S3, I3, ?_, b3⟩
  have e0 := @b_L_law_1047
  refine zat_in zP_L_law zk_L_law_1047 ?_
  simp (disch := omega) only [e0, zif, zdr, zkb, mK_wi, mN_wi, mJ_wi, mI_wi, sI_wi, beq_self_eq_true, Bool.true_or, Bool.or_true, Bool.or_false, Bool.and_self, Bool.and_true, Bool.true_and, ↓reduceIte, ble_up0, i_cl, i_succ, zix_of, zfl_k, zup_k, zup_q, kb, nb, sb, b0, i_ad2, i_ad3, i_ad4, i_ad5]
  refine ev_ci a1 ?_
  try simp (disch := omega) only [zif, zdr, zkb, mK_wi, mN_wi, mJ_wi, mI_wi, sI_wi, beq_self_eq_true, Bool.true_or, Bool.or_true, Bool.or_false, Bool.and_self, Bool.and_true, Bool.true_and, ble_up0, i_cl, i_succ, zix_of, zfl_k, zup_k, zup_q, k1, n1, s1, k7, i_ad2, i_ad3, i_ad4, i_ad5]
  refine ev_ci a2 ?_
  refine ev_th _ (fun _ => ?_) (fun h => (h (by first | rfl | trivial)).elim)
  exact ev_bk (cl_1083 a3)
theorem cl_trouble (hB : E.1 ≤ B) (h : LR E B b n s S I G) (hn : n ≤ 384) (hj : 6 * j + 6 ≤ n) (hN : NX E B b n s j c u S) : ∃ S2 I2, zAt E 14 215 1070 [some (zr (some b)), some (zr (some B)), some (zr (some (B + 318))), some (zi (Int32.ofNat (6 * j)))] [] (zwi S I) (Sum.inl (some (zi 1)), zwi S2 I2) ∧ mS S2 ≤ c ∧ mU S2 ≤ u := by
  obtain ⟨⟨hX, hM⟩, ⟨hi, he, hl⟩, -, ⟨hb, kb, nb, sb⟩⟩ := id h
  have b0 := hX.1.1
  obtain ⟨S1, I1, S2, I2, a1, ⟨k1, n1, s1, k7⟩, a2, L2, m2, u2⟩ := h.op (xo_trouble hi) (mo_trouble (by omega) hi) ⟨hi, he, hl⟩
  obtain ⟨S3, I3, a3, b3⟩ := hN S2 I2 _ L2 m2 u2
  refine ⟨S3, I3, ?_, b3⟩
  have e0 := @b_L_law_1070
  refine zat_in zP_L_law zk_L_law_1070 ?_
  simp (disch := omega) only [e0, zif, zdr, zkb, mK_wi, mN_wi, mJ_wi, mI_wi, sI_wi, beq_self_eq_true, Bool.true_or, Bool.or_true, Bool.or_false, Bool.and_self, Bool.and_true, Bool.true_and, ↓reduceIte, ble_up0, i_cl, i_succ, zix_of, zfl_k, zup_k, zup_q, kb, nb, sb, b0, i_ad2, i_ad3, i_ad4, i_ad5]
  refine ev_ci a1 ?_
  try simp (disch := omega) only [zif, zdr, zkb, mK_wi, mN_wi, mJ_wi, mI_wi, sI_wi, beq_self_eq_true, Bool.true_or, Bool.or_true, Bool.or_false, Bool.and_self, Bool.and_true, Bool.true_and, ble_up0, i_cl, i_succ, zix_of, zfl_k, zup_k, zup_q, k1, n1, s1, k7, i_ad2, i_ad3, i_ad4, i_ad5]
  refine ev_ci a2 ?_
  refine ev_th _ (fun _ => ?_) (fun h => (h (by first | rfl | trivial)).elim)
  exact ev_bk (cl_1083 a3)
theorem cl_go (hB : E.1 ≤ B) (h : LR E B b n s S I G) (hn : n ≤ 384) (hj : 6 * j + 6 ≤ n) (hN : NX E B b n s j c u S) : ∃ S2 I2, zAt E 14 215 18 [some (zr (some b)), some (zr (some B)), some (zr (some (B + 318))), some (zi (Int32.ofNat (6 * j)))] [] (zwi S I) (Sum.inl (some (zi 1)), zwi S2 I2) ∧ mS S2 ≤ c ∧ mU S2 ≤ u := by
  obtain ⟨-, -, -, ⟨hb, kb, nb, sb⟩⟩ := id h
  have e18 := @b_L_law_18
  have l : ¬ (Int32.ofNat n - 6 < Int32.ofNat (6 * j)) := by
    rw [show (6 : Int32) = Int32.ofNat 6 from rfl, i_subL (by omega) (by omega), i_lt (by omega) (by omega)]
    omega
  have hs : I b (6 * j) = s (6 * j) := sb _ (by omega)
  have k101 : Nat.ble 101 (mK (zwi S I) b) = true := by show Nat.ble 101 (mK S b) = true; rw [kb]; rfl
  have kq : (mK (zwi S I) b == 101) = true := by show (mK S b == 101) = true; rw [kb]; rfl
  have zx : zix (Int32.ofNat (6 * j)) (mN (zwi S I) b) = true := by show zix (Int32.ofNat (6 * j)) (mN S b) = true; rw [nb]; exact zix_of (by omega) (by omega)
  have hv : mI (zwi S I) b (Int32.toNatClampNeg (Int32.ofNat (6 * j))) = s (6 * j) := by rw [i_cl (by omega)]; exact hs
  have hl : ¬ (Int32.ofNat (mN (zwi S I) b) - 6 < Int32.ofNat (6 * j)) := by show ¬ (Int32.ofNat (mN S b) - 6 < Int32.ofNat (6 * j)); rw [nb]; exact l
  have st : ∀ r, zEv (fun n1 => (if s (6 * j) &&& 31 = 0 then zX E zPm n1 14 215 164 [some (zr (some b)), some (zr (some B)), some (zr (some (B + 318))), some (zi (Int32.ofNat (6 * j)))] [] (zwi S I) else if s (6 * j) &&& 31 = 1 then zX E zPm n1 14 215 197 [some (zr (some b)), some (zr (some B)), some (zr (some (B + 318))), some (zi (Int32.ofNat (6 * j)))] [] (zwi S I) else if s (6 * j) &&& 31 = 2 then zX E zPm n1 14 215 240 [some (zr (some b)), some (zr (some B)), some (zr (some (B + 318))), some (zi (Int32.ofNat (6 * j)))] [] (zwi S I) else if s (6 * j) &&& 31 = 3 then zX E zPm n1 14 215 303 [some (zr (some b)), some (zr (some B)), some (zr (some (B + 318))), some (zi (Int32.ofNat (6 * j)))] [] (zwi S I) else if s (6 * j) &&& 31 = 4 then zX E zPm n1 14 215 326 [some (zr (some b)), some (zr (some B)), some (zr (some (B + 318))), some (zi (Int32.ofNat (6 * j)))] [] (zwi S I) else if s (6 * j) &&& 31 = 5 then zX E zPm n1 14 215 349 [some (zr (some b)), some (zr (some B)), some (zr (some (B + 318))), some (zi (Int32.ofNat (6 * j)))] [] (zwi S I) else if s (6 * j) &&& 31 = 6 then zX E zPm n1 14 215 362 [some (zr (some b)), some (zr (some B)), some (zr (some (B + 318))), some (zi (Int32.ofNat (6 * j)))] [] (zwi S I) else if s (6 * j) &&& 31 = 7 then zX E zPm n1 14 215 375 [some (zr (some b)), some (zr (some B)), some (zr (some (B + 318))), some (zi (Int32.ofNat (6 * j)))] [] (zwi S I) else if s (6 * j) &&& 31 = 8 then zX E zPm n1 14 215 438 [some (zr (some b)), some (zr (some B)), some (zr (some (B + 318))), some (zi (Int32.ofNat (6 * j)))] [] (zwi S I) else if s (6 * j) &&& 31 = 9 then zX E zPm n1 14 215 471 [some (zr (some b)), some (zr (some B)), some (zr (some (B + 318))), some (zi (Int32.ofNat (6 * j)))] [] (zwi S I) else if s (6 * j) &&& 31 = 10 then zX E zPm n1 14 215 514 [some (zr (some b)), some (zr (some B)), some (zr (some (B + 318))), some (zi (Int32.ofNat (6 * j)))] [] (zwi S I) else if s (6 * j) &&& 31 = 11 then zX E zPm n1 14 215 537 [some (zr (some b)), some (zr (some B)), some (zr (some (B + 318))), some (zi (Int32.ofNat (6 * j)))] [] (zwi S I) else if s (6 * j) &&& 31 = 12 then zX E zPm n1 14 215 560 [some (zr (some b)), some (zr (some B)), some (zr (some (B + 318))), some (zi (Int32.ofNat (6 * j)))] [] (zwi S I) else if s (6 * j) &&& 31 = 13 then zX E zPm n1 14 215 593 [some (zr (some b)), some (zr (some B)), some (zr (some (B + 318))), some (zi (Int32.ofNat (6 * j)))] [] (zwi S I) else if s (6 * j) &&& 31 = 14 then zX E zPm n1 14 215 636 [some (zr (some b)), some (zr (some B)), some (zr (some (B + 318))), some (zi (Int32.ofNat (6 * j)))] [] (zwi S I) else if s (6 * j) &&& 31 = 15 then zX E zPm n1 14 215 695 [some (zr (some b)), some (zr (some B)), some (zr (some (B + 318))), some (zi (Int32.ofNat (6 * j)))] [] (zwi S I) else if s (6 * j) &&& 31 = 16 then zX E zPm n1 14 215 718 [some (zr (some b)), some (zr (some B)), some (zr (some (B + 318))), some (zi (Int32.ofNat (6 * j)))] [] (zwi S I) else if s (6 * j) &&& 31 = 17 then zX E zPm n1 14 215 741 [some (zr (some b)), some (zr (some B)), some (zr (some (B + 318))), some (zi (Int32.ofNat (6 * j)))] [] (zwi S I) else if s (6 * j) &&& 31 = 18 then zX E zPm n1 14 215 774 [some (zr (some b)), some (zr (some B)), some (zr (some (B + 318))), some (zi (Int32.ofNat (6 * j)))] [] (zwi S I) else if s (6 * j) &&& 31 = 19 then zX E zPm n1 14 215 797 [some (zr (some b)), some (zr (some B)), some (zr (some (B + 318))), some (zi (Int32.ofNat (6 * j)))] [] (zwi S I) else if s (6 * j) &&& 31 = 20 then zX E zPm n1 14 215 830 [some (zr (some b)), some (zr (some B)), some (zr (some (B + 318))), some (zi (Int32.ofNat (6 * j)))] [] (zwi S I) else if s (6 * j) &&& 31 = 21 then zX E zPm n1 14 215 889 [some (zr (some b)), some (zr (some B)), some (zr (some (B + 318))), some (zi (Int32.ofNat (6 * j)))] [] (zwi S I) else if s (6 * j) &&& 31 = 22 then zX E zPm n1 14 215 912 [some (zr (some b)), some (zr (some B)), some (zr (some (B + 318))), some (zi (Int32.ofNat (6 * j)))] [] (zwi S I) else if s (6 * j) &&& 31 = 23 then zX E zPm n1 14 215 955 [some (zr (some b)), some (zr (some B)), some (zr (some (B + 318))), some (zi (Int32.ofNat (6 * j)))] [] (zwi S I) else if s (6 * j) &&& 31 = 24 then zX E zPm n1 14 215 968 [some (zr (some b)), some (zr (some B)), some (zr (some (B + 318))), some (zi (Int32.ofNat (6 * j)))] [] (zwi S I) else if s (6 * j) &&& 31 = 25 then zX E zPm n1 14 215 981 [some (zr (some b)), some (zr (some B)), some (zr (some (B + 318))), some (zi (Int32.ofNat (6 * j)))] [] (zwi S I) else if s (6 * j) &&& 31 = 26 then zX E zPm n1 14 215 1014 [some (zr (some b)), some (zr (some B)), some (zr (some (B + 318))), some (zi (Int32.ofNat (6 * j)))] [] (zwi S I) else if s (6 * j) &&& 31 = 27 then zX E zPm n1 14 215 1047 [some (zr (some b)), some (zr (some B)), some (zr (some (B + 318))), some (zi (Int32.ofNat (6 * j)))] [] (zwi S I) else if s (6 * j) &&& 31 = 28 then zX E zPm n1 14 215 1070 [some (zr (some b)), some (zr (some B)), some (zr (some (B + 318))), some (zi (Int32.ofNat (6 * j)))] [] (zwi S I) else zX E zPm n1 14 215 1083 [some (zr (some b)), some (zr (some B)), some (zr (some (B + 318))), some (zi (Int32.ofNat (6 * j)))] [] (zwi S I))) r → zAt E 14 215 18 [some (zr (some b)), some (zr (some B)), some (zr (some (B + 318))), some (zi (Int32.ofNat (6 * j)))] [] (zwi S I) r := by
    intro r hr
    refine zat_in zP_L_law zk_L_law_18 ?_
    simp only [e18]
    refine ev_zif k101 ?_
    refine ev_th _ (fun z => absurd z hl) (fun _ => ?_)
    refine ev_zif kq ?_
    refine ev_zif zx ?_
    rw [hv]
    exact hr
  by_cases c0 : s (6 * j) &&& 31 = 0
  · obtain ⟨S2, I2, a2, b2⟩ := cl_leg hB h hn hj hN
    refine ⟨S2, I2, st _ ?_, b2⟩
    exact ev_th _ (fun _ => a2) (fun z => absurd c0 z)
  by_cases c1 : s (6 * j) &&& 31 = 1
  · obtain ⟨S2, I2, a2, b2⟩ := cl_cold hB h hn hj hN
    refine ⟨S2, I2, st _ ?_, b2⟩
    refine ev_th _ (fun z => absurd z c0) (fun _ => ?_)
    exact ev_th _ (fun _ => a2) (fun z => absurd c1 z)
  by_cases c2 : s (6 * j) &&& 31 = 2
  · obtain ⟨S2, I2, a2, b2⟩ := cl_feed hB h hn hj hN
    refine ⟨S2, I2, st _ ?_, b2⟩
    refine ev_th _ (fun z => absurd z c0) (fun _ => ?_)
    refine ev_th _ (fun z => absurd z c1) (fun _ => ?_)
    exact ev_th _ (fun _ => a2) (fun z => absurd c2 z)
  by_cases c3 : s (6 * j) &&& 31 = 3
  · obtain ⟨S2, I2, a2, b2⟩ := cl_plan hB h hn hj hN
    refine ⟨S2, I2, st _ ?_, b2⟩
    refine ev_th _ (fun z => absurd z c0) (fun _ => ?_)
    refine ev_th _ (fun z => absurd z c1) (fun _ => ?_)
    refine ev_th _ (fun z => absurd z c2) (fun _ => ?_)
    exact ev_th _ (fun _ => a2) (fun z => absurd c3 z)
  by_cases c4 : s (6 * j) &&& 31 = 4
  · obtain ⟨S2, I2, a2, b2⟩ := cl_laws hB h hn hj hN
    refine ⟨S2, I2, st _ ?_, b2⟩
    refine ev_th _ (fun z => absurd z c0) (fun _ => ?_)
    refine ev_th _ (fun z => absurd z c1) (fun _ => ?_)
    refine ev_th _ (fun z => absurd z c2) (fun _ => ?_)
    refine ev_th _ (fun z => absurd z c3) (fun _ => ?_)
    exact ev_th _ (fun _ => a2) (fun z => absurd c4 z)
  by_cases c5 : s (6 * j) &&& 31 = 5
  · obtain ⟨S2, I2, a2, b2⟩ := cl_fault hB h hn hj hN
    refine ⟨S2, I2, st _ ?_, b2⟩
    refine ev_th _ (fun z => absurd z c0) (fun _ => ?_)
    refine ev_th _ (fun z => absurd z c1) (fun _ => ?_)
    refine ev_th _ (fun z => absurd z c2) (fun _ => ?_)
    refine ev_th _ (fun z => absurd z c3) (fun _ => ?_)
    refine ev_th _ (fun z => absurd z c4) (fun _ => ?_)
    exact ev_th _ (fun _ => a2) (fun z => absurd c5 z)
  by_cases c6 : s (6 * j) &&& 31 = 6
  · obtain ⟨S2, I2, a2, b2⟩ := cl_where hB h hn hj hN
    refine ⟨S2, I2, st _ ?_, b2⟩
    refine ev_th _ (fun z => absurd z c0) (fun _ => ?_)
    refine ev_th _ (fun z => absurd z c1) (fun _ => ?_)
    refine ev_th _ (fun z => absurd z c2) (fun _ => ?_)
    refine ev_th _ (fun z => absurd z c3) (fun _ => ?_)
    refine ev_th _ (fun z => absurd z c4) (fun _ => ?_)
    refine ev_th _ (fun z => absurd z c5) (fun _ => ?_)
    exact ev_th _ (fun _ => a2) (fun z => absurd c6 z)
  by_cases c7 : s (6 * j) &&& 31 = 7
  · obtain ⟨S2, I2, a2, b2⟩ := cl_team hB h hn hj hN
    refine ⟨S2, I2, st _ ?_, b2⟩
    refine ev_th _ (fun z => absurd z c0) (fun _ => ?_)
    refine ev_th _ (fun z => absurd z c1) (fun _ => ?_)
    refine ev_th _ (fun z => absurd z c2) (fun _ => ?_)
    refine ev_th _ (fun z => absurd z c3) (fun _ => ?_)
    refine ev_th _ (fun z => absurd z c4) (fun _ => ?_)
    refine ev_th _ (fun z => absurd z c5) (fun _ => ?_)
    refine ev_th _ (fun z => absurd z c6) (fun _ => ?_)
    exact ev_th _ (fun _ => a2) (fun z => absurd c7 z)
  by_cases c8 : s (6 * j) &&& 31 = 8
  · obtain ⟨S2, I2, a2, b2⟩ := cl_follow hB h hn hj hN
    refine ⟨S2, I2, st _ ?_, b2⟩
    refine ev_th _ (fun z => absurd z c0) (fun _ => ?_)
    refine ev_th _ (fun z => absurd z c1) (fun _ => ?_)
    refine ev_th _ (fun z => absurd z c2) (fun _ => ?_)
    refine ev_th _ (fun z => absurd z c3) (fun _ => ?_)
    refine ev_th _ (fun z => absurd z c4) (fun _ => ?_)
    refine ev_th _ (fun z => absurd z c5) (fun _ => ?_)
    refine ev_th _ (fun z => absurd z c6) (fun _ => ?_)
    refine ev_th _ (fun z => absurd z c7) (fun _ => ?_)
    exact ev_th _ (fun _ => a2) (fun z => absurd c8 z)
  by_cases c9 : s (6 * j) &&& 31 = 9
  · obtain ⟨S2, I2, a2, b2⟩ := cl_gap hB h hn hj hN
    refine ⟨S2, I2, st _ ?_, b2⟩
    refine ev_th _ (fun z => absurd z c0) (fun _ => ?_)
    refine ev_th _ (fun z => absurd z c1) (fun _ => ?_)
    refine ev_th _ (fun z => absurd z c2) (fun _ => ?_)
    refine ev_th _ (fun z => absurd z c3) (fun _ => ?_)
    refine ev_th _ (fun z => absurd z c4) (fun _ => ?_)
    refine ev_th _ (fun z => absurd z c5) (fun _ => ?_)
    refine ev_th _ (fun z => absurd z c6) (fun _ => ?_)
    refine ev_th _ (fun z => absurd z c7) (fun _ => ?_)
    refine ev_th _ (fun z => absurd z c8) (fun _ => ?_)
    exact ev_th _ (fun _ => a2) (fun z => absurd c9 z)
  by_cases c10 : s (6 * j) &&& 31 = 10
  · obtain ⟨S2, I2, a2, b2⟩ := cl_each hB h hn hj hN
    refine ⟨S2, I2, st _ ?_, b2⟩
    refine ev_th _ (fun z => absurd z c0) (fun _ => ?_)
    refine ev_th _ (fun z => absurd z c1) (fun _ => ?_)
    refine ev_th _ (fun z => absurd z c2) (fun _ => ?_)
    refine ev_th _ (fun z => absurd z c3) (fun _ => ?_)
    refine ev_th _ (fun z => absurd z c4) (fun _ => ?_)
    refine ev_th _ (fun z => absurd z c5) (fun _ => ?_)
    refine ev_th _ (fun z => absurd z c6) (fun _ => ?_)
    refine ev_th _ (fun z => absurd z c7) (fun _ => ?_)
    refine ev_th _ (fun z => absurd z c8) (fun _ => ?_)
    refine ev_th _ (fun z => absurd z c9) (fun _ => ?_)
    exact ev_th _ (fun _ => a2) (fun z => absurd c10 z)
  by_cases c11 : s (6 * j) &&& 31 = 11
  · obtain ⟨S2, I2, a2, b2⟩ := cl_run hB h hn hj hN
    refine ⟨S2, I2, st _ ?_, b2⟩
    refine ev_th _ (fun z => absurd z c0) (fun _ => ?_)
    refine ev_th _ (fun z => absurd z c1) (fun _ => ?_)
    refine ev_th _ (fun z => absurd z c2) (fun _ => ?_)
    refine ev_th _ (fun z => absurd z c3) (fun _ => ?_)
    refine ev_th _ (fun z => absurd z c4) (fun _ => ?_)
    refine ev_th _ (fun z => absurd z c5) (fun _ => ?_)
    refine ev_th _ (fun z => absurd z c6) (fun _ => ?_)
    refine ev_th _ (fun z => absurd z c7) (fun _ => ?_)
    refine ev_th _ (fun z => absurd z c8) (fun _ => ?_)
    refine ev_th _ (fun z => absurd z c9) (fun _ => ?_)
    refine ev_th _ (fun z => absurd z c10) (fun _ => ?_)
    exact ev_th _ (fun _ => a2) (fun z => absurd c11 z)
  by_cases c12 : s (6 * j) &&& 31 = 12
  · obtain ⟨S2, I2, a2, b2⟩ := cl_about hB h hn hj hN
    refine ⟨S2, I2, st _ ?_, b2⟩
    refine ev_th _ (fun z => absurd z c0) (fun _ => ?_)
    refine ev_th _ (fun z => absurd z c1) (fun _ => ?_)
    refine ev_th _ (fun z => absurd z c2) (fun _ => ?_)
    refine ev_th _ (fun z => absurd z c3) (fun _ => ?_)
    refine ev_th _ (fun z => absurd z c4) (fun _ => ?_)
    refine ev_th _ (fun z => absurd z c5) (fun _ => ?_)
    refine ev_th _ (fun z => absurd z c6) (fun _ => ?_)
    refine ev_th _ (fun z => absurd z c7) (fun _ => ?_)
    refine ev_th _ (fun z => absurd z c8) (fun _ => ?_)
    refine ev_th _ (fun z => absurd z c9) (fun _ => ?_)
    refine ev_th _ (fun z => absurd z c10) (fun _ => ?_)
    refine ev_th _ (fun z => absurd z c11) (fun _ => ?_)
    exact ev_th _ (fun _ => a2) (fun z => absurd c12 z)
  by_cases c13 : s (6 * j) &&& 31 = 13
  · obtain ⟨S2, I2, a2, b2⟩ := cl_dog hB h hn hj hN
    refine ⟨S2, I2, st _ ?_, b2⟩
    refine ev_th _ (fun z => absurd z c0) (fun _ => ?_)
    refine ev_th _ (fun z => absurd z c1) (fun _ => ?_)
    refine ev_th _ (fun z => absurd z c2) (fun _ => ?_)
    refine ev_th _ (fun z => absurd z c3) (fun _ => ?_)
    refine ev_th _ (fun z => absurd z c4) (fun _ => ?_)
    refine ev_th _ (fun z => absurd z c5) (fun _ => ?_)
    refine ev_th _ (fun z => absurd z c6) (fun _ => ?_)
    refine ev_th _ (fun z => absurd z c7) (fun _ => ?_)
    refine ev_th _ (fun z => absurd z c8) (fun _ => ?_)
    refine ev_th _ (fun z => absurd z c9) (fun _ => ?_)
    refine ev_th _ (fun z => absurd z c10) (fun _ => ?_)
    refine ev_th _ (fun z => absurd z c11) (fun _ => ?_)
    refine ev_th _ (fun z => absurd z c12) (fun _ => ?_)
    exact ev_th _ (fun _ => a2) (fun z => absurd c13 z)
  by_cases c14 : s (6 * j) &&& 31 = 14
  · obtain ⟨S2, I2, a2, b2⟩ := cl_time hB h hn hj hN
    refine ⟨S2, I2, st _ ?_, b2⟩
    refine ev_th _ (fun z => absurd z c0) (fun _ => ?_)
    refine ev_th _ (fun z => absurd z c1) (fun _ => ?_)
    refine ev_th _ (fun z => absurd z c2) (fun _ => ?_)
    refine ev_th _ (fun z => absurd z c3) (fun _ => ?_)
    refine ev_th _ (fun z => absurd z c4) (fun _ => ?_)
    refine ev_th _ (fun z => absurd z c5) (fun _ => ?_)
    refine ev_th _ (fun z => absurd z c6) (fun _ => ?_)
    refine ev_th _ (fun z => absurd z c7) (fun _ => ?_)
    refine ev_th _ (fun z => absurd z c8) (fun _ => ?_)
    refine ev_th _ (fun z => absurd z c9) (fun _ => ?_)
    refine ev_th _ (fun z => absurd z c10) (fun _ => ?_)
    refine ev_th _ (fun z => absurd z c11) (fun _ => ?_)
    refine ev_th _ (fun z => absurd z c12) (fun _ => ?_)
    refine ev_th _ (fun z => absurd z c13) (fun _ => ?_)
    exact ev_th _ (fun _ => a2) (fun z => absurd c14 z)
  by_cases c15 : s (6 * j) &&& 31 = 15
  · obtain ⟨S2, I2, a2, b2⟩ := cl_did hB h hn hj hN
    refine ⟨S2, I2, st _ ?_, b2⟩
    refine ev_th _ (fun z => absurd z c0) (fun _ => ?_)
    refine ev_th _ (fun z => absurd z c1) (fun _ => ?_)
    refine ev_th _ (fun z => absurd z c2) (fun _ => ?_)
    refine ev_th _ (fun z => absurd z c3) (fun _ => ?_)
    refine ev_th _ (fun z => absurd z c4) (fun _ => ?_)
    refine ev_th _ (fun z => absurd z c5) (fun _ => ?_)
    refine ev_th _ (fun z => absurd z c6) (fun _ => ?_)
    refine ev_th _ (fun z => absurd z c7) (fun _ => ?_)
    refine ev_th _ (fun z => absurd z c8) (fun _ => ?_)
    refine ev_th _ (fun z => absurd z c9) (fun _ => ?_)
    refine ev_th _ (fun z => absurd z c10) (fun _ => ?_)
    refine ev_th _ (fun z => absurd z c11) (fun _ => ?_)
    refine ev_th _ (fun z => absurd z c12) (fun _ => ?_)
    refine ev_th _ (fun z => absurd z c13) (fun _ => ?_)
    refine ev_th _ (fun z => absurd z c14) (fun _ => ?_)
    exact ev_th _ (fun _ => a2) (fun z => absurd c15 z)
  by_cases c16 : s (6 * j) &&& 31 = 16
  · obtain ⟨S2, I2, a2, b2⟩ := cl_result hB h hn hj hN
    refine ⟨S2, I2, st _ ?_, b2⟩
    refine ev_th _ (fun z => absurd z c0) (fun _ => ?_)
    refine ev_th _ (fun z => absurd z c1) (fun _ => ?_)
    refine ev_th _ (fun z => absurd z c2) (fun _ => ?_)
    refine ev_th _ (fun z => absurd z c3) (fun _ => ?_)
    refine ev_th _ (fun z => absurd z c4) (fun _ => ?_)
    refine ev_th _ (fun z => absurd z c5) (fun _ => ?_)
    refine ev_th _ (fun z => absurd z c6) (fun _ => ?_)
    refine ev_th _ (fun z => absurd z c7) (fun _ => ?_)
    refine ev_th _ (fun z => absurd z c8) (fun _ => ?_)
    refine ev_th _ (fun z => absurd z c9) (fun _ => ?_)
    refine ev_th _ (fun z => absurd z c10) (fun _ => ?_)
    refine ev_th _ (fun z => absurd z c11) (fun _ => ?_)
    refine ev_th _ (fun z => absurd z c12) (fun _ => ?_)
    refine ev_th _ (fun z => absurd z c13) (fun _ => ?_)
    refine ev_th _ (fun z => absurd z c14) (fun _ => ?_)
    refine ev_th _ (fun z => absurd z c15) (fun _ => ?_)
    exact ev_th _ (fun _ => a2) (fun z => absurd c16 z)
  by_cases c17 : s (6 * j) &&& 31 = 17
  · obtain ⟨S2, I2, a2, b2⟩ := cl_lacks hB h hn hj hN
    refine ⟨S2, I2, st _ ?_, b2⟩
    refine ev_th _ (fun z => absurd z c0) (fun _ => ?_)
    refine ev_th _ (fun z => absurd z c1) (fun _ => ?_)
    refine ev_th _ (fun z => absurd z c2) (fun _ => ?_)
    refine ev_th _ (fun z => absurd z c3) (fun _ => ?_)
    refine ev_th _ (fun z => absurd z c4) (fun _ => ?_)
    refine ev_th _ (fun z => absurd z c5) (fun _ => ?_)
    refine ev_th _ (fun z => absurd z c6) (fun _ => ?_)
    refine ev_th _ (fun z => absurd z c7) (fun _ => ?_)
    refine ev_th _ (fun z => absurd z c8) (fun _ => ?_)
    refine ev_th _ (fun z => absurd z c9) (fun _ => ?_)
    refine ev_th _ (fun z => absurd z c10) (fun _ => ?_)
    refine ev_th _ (fun z => absurd z c11) (fun _ => ?_)
    refine ev_th _ (fun z => absurd z c12) (fun _ => ?_)
    refine ev_th _ (fun z => absurd z c13) (fun _ => ?_)
    refine ev_th _ (fun z => absurd z c14) (fun _ => ?_)
    refine ev_th _ (fun z => absurd z c15) (fun _ => ?_)
    refine ev_th _ (fun z => absurd z c16) (fun _ => ?_)
    exact ev_th _ (fun _ => a2) (fun z => absurd c17 z)
  by_cases c18 : s (6 * j) &&& 31 = 18
  · obtain ⟨S2, I2, a2, b2⟩ := cl_place hB h hn hj hN
    refine ⟨S2, I2, st _ ?_, b2⟩
    refine ev_th _ (fun z => absurd z c0) (fun _ => ?_)
    refine ev_th _ (fun z => absurd z c1) (fun _ => ?_)
    refine ev_th _ (fun z => absurd z c2) (fun _ => ?_)
    refine ev_th _ (fun z => absurd z c3) (fun _ => ?_)
    refine ev_th _ (fun z => absurd z c4) (fun _ => ?_)
    refine ev_th _ (fun z => absurd z c5) (fun _ => ?_)
    refine ev_th _ (fun z => absurd z c6) (fun _ => ?_)
    refine ev_th _ (fun z => absurd z c7) (fun _ => ?_)
    refine ev_th _ (fun z => absurd z c8) (fun _ => ?_)
    refine ev_th _ (fun z => absurd z c9) (fun _ => ?_)
    refine ev_th _ (fun z => absurd z c10) (fun _ => ?_)
    refine ev_th _ (fun z => absurd z c11) (fun _ => ?_)
    refine ev_th _ (fun z => absurd z c12) (fun _ => ?_)
    refine ev_th _ (fun z => absurd z c13) (fun _ => ?_)
    refine ev_th _ (fun z => absurd z c14) (fun _ => ?_)
    refine ev_th _ (fun z => absurd z c15) (fun _ => ?_)
    refine ev_th _ (fun z => absurd z c16) (fun _ => ?_)
    refine ev_th _ (fun z => absurd z c17) (fun _ => ?_)
    exact ev_th _ (fun _ => a2) (fun z => absurd c18 z)
  by_cases c19 : s (6 * j) &&& 31 = 19
  · obtain ⟨S2, I2, a2, b2⟩ := cl_came hB h hn hj hN
    refine ⟨S2, I2, st _ ?_, b2⟩
    refine ev_th _ (fun z => absurd z c0) (fun _ => ?_)
    refine ev_th _ (fun z => absurd z c1) (fun _ => ?_)
    refine ev_th _ (fun z => absurd z c2) (fun _ => ?_)
    refine ev_th _ (fun z => absurd z c3) (fun _ => ?_)
    refine ev_th _ (fun z => absurd z c4) (fun _ => ?_)
    refine ev_th _ (fun z => absurd z c5) (fun _ => ?_)
    refine ev_th _ (fun z => absurd z c6) (fun _ => ?_)
    refine ev_th _ (fun z => absurd z c7) (fun _ => ?_)
    refine ev_th _ (fun z => absurd z c8) (fun _ => ?_)
    refine ev_th _ (fun z => absurd z c9) (fun _ => ?_)
    refine ev_th _ (fun z => absurd z c10) (fun _ => ?_)
    refine ev_th _ (fun z => absurd z c11) (fun _ => ?_)
    refine ev_th _ (fun z => absurd z c12) (fun _ => ?_)
    refine ev_th _ (fun z => absurd z c13) (fun _ => ?_)
    refine ev_th _ (fun z => absurd z c14) (fun _ => ?_)
    refine ev_th _ (fun z => absurd z c15) (fun _ => ?_)
    refine ev_th _ (fun z => absurd z c16) (fun _ => ?_)
    refine ev_th _ (fun z => absurd z c17) (fun _ => ?_)
    refine ev_th _ (fun z => absurd z c18) (fun _ => ?_)
    exact ev_th _ (fun _ => a2) (fun z => absurd c19 z)
  by_cases c20 : s (6 * j) &&& 31 = 20
  · obtain ⟨S2, I2, a2, b2⟩ := cl_spot hB h hn hj hN
    refine ⟨S2, I2, st _ ?_, b2⟩
    refine ev_th _ (fun z => absurd z c0) (fun _ => ?_)
    refine ev_th _ (fun z => absurd z c1) (fun _ => ?_)
    refine ev_th _ (fun z => absurd z c2) (fun _ => ?_)
    refine ev_th _ (fun z => absurd z c3) (fun _ => ?_)
    refine ev_th _ (fun z => absurd z c4) (fun _ => ?_)
    refine ev_th _ (fun z => absurd z c5) (fun _ => ?_)
    refine ev_th _ (fun z => absurd z c6) (fun _ => ?_)
    refine ev_th _ (fun z => absurd z c7) (fun _ => ?_)
    refine ev_th _ (fun z => absurd z c8) (fun _ => ?_)
    refine ev_th _ (fun z => absurd z c9) (fun _ => ?_)
    refine ev_th _ (fun z => absurd z c10) (fun _ => ?_)
    refine ev_th _ (fun z => absurd z c11) (fun _ => ?_)
    refine ev_th _ (fun z => absurd z c12) (fun _ => ?_)
    refine ev_th _ (fun z => absurd z c13) (fun _ => ?_)
    refine ev_th _ (fun z => absurd z c14) (fun _ => ?_)
    refine ev_th _ (fun z => absurd z c15) (fun _ => ?_)
    refine ev_th _ (fun z => absurd z c16) (fun _ => ?_)
    refine ev_th _ (fun z => absurd z c17) (fun _ => ?_)
    refine ev_th _ (fun z => absurd z c18) (fun _ => ?_)
    refine ev_th _ (fun z => absurd z c19) (fun _ => ?_)
    exact ev_th _ (fun _ => a2) (fun z => absurd c20 z)
  by_cases c21 : s (6 * j) &&& 31 = 21
  · obtain ⟨S2, I2, a2, b2⟩ := cl_signs hB h hn hj hN
    refine ⟨S2, I2, st _ ?_, b2⟩
    refine ev_th _ (fun z => absurd z c0) (fun _ => ?_)
    refine ev_th _ (fun z => absurd z c1) (fun _ => ?_)
    refine ev_th _ (fun z => absurd z c2) (fun _ => ?_)
    refine ev_th _ (fun z => absurd z c3) (fun _ => ?_)
    refine ev_th _ (fun z => absurd z c4) (fun _ => ?_)
    refine ev_th _ (fun z => absurd z c5) (fun _ => ?_)
    refine ev_th _ (fun z => absurd z c6) (fun _ => ?_)
    refine ev_th _ (fun z => absurd z c7) (fun _ => ?_)
    refine ev_th _ (fun z => absurd z c8) (fun _ => ?_)
    refine ev_th _ (fun z => absurd z c9) (fun _ => ?_)
    refine ev_th _ (fun z => absurd z c10) (fun _ => ?_)
    refine ev_th _ (fun z => absurd z c11) (fun _ => ?_)
    refine ev_th _ (fun z => absurd z c12) (fun _ => ?_)
    refine ev_th _ (fun z => absurd z c13) (fun _ => ?_)
    refine ev_th _ (fun z => absurd z c14) (fun _ => ?_)
    refine ev_th _ (fun z => absurd z c15) (fun _ => ?_)
    refine ev_th _ (fun z => absurd z c16) (fun _ => ?_)
    refine ev_th _ (fun z => absurd z c17) (fun _ => ?_)
    refine ev_th _ (fun z => absurd z c18) (fun _ => ?_)
    refine ev_th _ (fun z => absurd z c19) (fun _ => ?_)
    refine ev_th _ (fun z => absurd z c20) (fun _ => ?_)
    exact ev_th _ (fun _ => a2) (fun z => absurd c21 z)
  by_cases c22 : s (6 * j) &&& 31 = 22
  · obtain ⟨S2, I2, a2, b2⟩ := cl_replay hB h hn hj hN
    refine ⟨S2, I2, st _ ?_, b2⟩
    refine ev_th _ (fun z => absurd z c0) (fun _ => ?_)
    refine ev_th _ (fun z => absurd z c1) (fun _ => ?_)
    refine ev_th _ (fun z => absurd z c2) (fun _ => ?_)
    refine ev_th _ (fun z => absurd z c3) (fun _ => ?_)
    refine ev_th _ (fun z => absurd z c4) (fun _ => ?_)
    refine ev_th _ (fun z => absurd z c5) (fun _ => ?_)
    refine ev_th _ (fun z => absurd z c6) (fun _ => ?_)
    refine ev_th _ (fun z => absurd z c7) (fun _ => ?_)
    refine ev_th _ (fun z => absurd z c8) (fun _ => ?_)
    refine ev_th _ (fun z => absurd z c9) (fun _ => ?_)
    refine ev_th _ (fun z => absurd z c10) (fun _ => ?_)
    refine ev_th _ (fun z => absurd z c11) (fun _ => ?_)
    refine ev_th _ (fun z => absurd z c12) (fun _ => ?_)
    refine ev_th _ (fun z => absurd z c13) (fun _ => ?_)
    refine ev_th _ (fun z => absurd z c14) (fun _ => ?_)
    refine ev_th _ (fun z => absurd z c15) (fun _ => ?_)
    refine ev_th _ (fun z => absurd z c16) (fun _ => ?_)
    refine ev_th _ (fun z => absurd z c17) (fun _ => ?_)
    refine ev_th _ (fun z => absurd z c18) (fun _ => ?_)
    refine ev_th _ (fun z => absurd z c19) (fun _ => ?_)
    refine ev_th _ (fun z => absurd z c20) (fun _ => ?_)
    refine ev_th _ (fun z => absurd z c21) (fun _ => ?_)
    exact ev_th _ (fun _ => a2) (fun z => absurd c22 z)
  by_cases c23 : s (6 * j) &&& 31 = 23
  · obtain ⟨S2, I2, a2, b2⟩ := cl_keep hB h hn hj hN
    refine ⟨S2, I2, st _ ?_, b2⟩
    refine ev_th _ (fun z => absurd z c0) (fun _ => ?_)
    refine ev_th _ (fun z => absurd z c1) (fun _ => ?_)
    refine ev_th _ (fun z => absurd z c2) (fun _ => ?_)
    refine ev_th _ (fun z => absurd z c3) (fun _ => ?_)
    refine ev_th _ (fun z => absurd z c4) (fun _ => ?_)
    refine ev_th _ (fun z => absurd z c5) (fun _ => ?_)
    refine ev_th _ (fun z => absurd z c6) (fun _ => ?_)
    refine ev_th _ (fun z => absurd z c7) (fun _ => ?_)
    refine ev_th _ (fun z => absurd z c8) (fun _ => ?_)
    refine ev_th _ (fun z => absurd z c9) (fun _ => ?_)
    refine ev_th _ (fun z => absurd z c10) (fun _ => ?_)
    refine ev_th _ (fun z => absurd z c11) (fun _ => ?_)
    refine ev_th _ (fun z => absurd z c12) (fun _ => ?_)
    refine ev_th _ (fun z => absurd z c13) (fun _ => ?_)
    refine ev_th _ (fun z => absurd z c14) (fun _ => ?_)
    refine ev_th _ (fun z => absurd z c15) (fun _ => ?_)
    refine ev_th _ (fun z => absurd z c16) (fun _ => ?_)
    refine ev_th _ (fun z => absurd z c17) (fun _ => ?_)
    refine ev_th _ (fun z => absurd z c18) (fun _ => ?_)
    refine ev_th _ (fun z => absurd z c19) (fun _ => ?_)
    refine ev_th _ (fun z => absurd z c20) (fun _ => ?_)
    refine ev_th _ (fun z => absurd z c21) (fun _ => ?_)
    refine ev_th _ (fun z => absurd z c22) (fun _ => ?_)
    exact ev_th _ (fun _ => a2) (fun z => absurd c23 z)
  by_cases c24 : s (6 * j) &&& 31 = 24
  · obtain ⟨S2, I2, a2, b2⟩ := cl_back hB h hn hj hN
    refine ⟨S2, I2, st _ ?_, b2⟩
    refine ev_th _ (fun z => absurd z c0) (fun _ => ?_)
    refine ev_th _ (fun z => absurd z c1) (fun _ => ?_)
    refine ev_th _ (fun z => absurd z c2) (fun _ => ?_)
    refine ev_th _ (fun z => absurd z c3) (fun _ => ?_)
    refine ev_th _ (fun z => absurd z c4) (fun _ => ?_)
    refine ev_th _ (fun z => absurd z c5) (fun _ => ?_)
    refine ev_th _ (fun z => absurd z c6) (fun _ => ?_)
    refine ev_th _ (fun z => absurd z c7) (fun _ => ?_)
    refine ev_th _ (fun z => absurd z c8) (fun _ => ?_)
    refine ev_th _ (fun z => absurd z c9) (fun _ => ?_)
    refine ev_th _ (fun z => absurd z c10) (fun _ => ?_)
    refine ev_th _ (fun z => absurd z c11) (fun _ => ?_)
    refine ev_th _ (fun z => absurd z c12) (fun _ => ?_)
    refine ev_th _ (fun z => absurd z c13) (fun _ => ?_)
    refine ev_th _ (fun z => absurd z c14) (fun _ => ?_)
    refine ev_th _ (fun z => absurd z c15) (fun _ => ?_)
    refine ev_th _ (fun z => absurd z c16) (fun _ => ?_)
    refine ev_th _ (fun z => absurd z c17) (fun _ => ?_)
    refine ev_th _ (fun z => absurd z c18) (fun _ => ?_)
    refine ev_th _ (fun z => absurd z c19) (fun _ => ?_)
    refine ev_th _ (fun z => absurd z c20) (fun _ => ?_)
    refine ev_th _ (fun z => absurd z c21) (fun _ => ?_)
    refine ev_th _ (fun z => absurd z c22) (fun _ => ?_)
    refine ev_th _ (fun z => absurd z c23) (fun _ => ?_)
    exact ev_th _ (fun _ => a2) (fun z => absurd c24 z)
  by_cases c25 : s (6 * j) &&& 31 = 25
  · obtain ⟨S2, I2, a2, b2⟩ := cl_law hB h hn hj hN
    refine ⟨S2, I2, st _ ?_, b2⟩
    refine ev_th _ (fun z => absurd z c0) (fun _ => ?_)
    refine ev_th _ (fun z => absurd z c1) (fun _ => ?_)
    refine ev_th _ (fun z => absurd z c2) (fun _ => ?_)
    refine ev_th _ (fun z => absurd z c3) (fun _ => ?_)
    refine ev_th _ (fun z => absurd z c4) (fun _ => ?_)
    refine ev_th _ (fun z => absurd z c5) (fun _ => ?_)
    refine ev_th _ (fun z => absurd z c6) (fun _ => ?_)
    refine ev_th _ (fun z => absurd z c7) (fun _ => ?_)
    refine ev_th _ (fun z => absurd z c8) (fun _ => ?_)
    refine ev_th _ (fun z => absurd z c9) (fun _ => ?_)
    refine ev_th _ (fun z => absurd z c10) (fun _ => ?_)
    refine ev_th _ (fun z => absurd z c11) (fun _ => ?_)
    refine ev_th _ (fun z => absurd z c12) (fun _ => ?_)
    refine ev_th _ (fun z => absurd z c13) (fun _ => ?_)
    refine ev_th _ (fun z => absurd z c14) (fun _ => ?_)
    refine ev_th _ (fun z => absurd z c15) (fun _ => ?_)
    refine ev_th _ (fun z => absurd z c16) (fun _ => ?_)
    refine ev_th _ (fun z => absurd z c17) (fun _ => ?_)
    refine ev_th _ (fun z => absurd z c18) (fun _ => ?_)
    refine ev_th _ (fun z => absurd z c19) (fun _ => ?_)
    refine ev_th _ (fun z => absurd z c20) (fun _ => ?_)
    refine ev_th _ (fun z => absurd z c21) (fun _ => ?_)
    refine ev_th _ (fun z => absurd z c22) (fun _ => ?_)
    refine ev_th _ (fun z => absurd z c23) (fun _ => ?_)
    refine ev_th _ (fun z => absurd z c24) (fun _ => ?_)
    exact ev_th _ (fun _ => a2) (fun z => absurd c25 z)
  by_cases c26 : s (6 * j) &&& 31 = 26
  · obtain ⟨S2, I2, a2, b2⟩ := cl_planned hB h hn hj hN
    refine ⟨S2, I2, st _ ?_, b2⟩
    refine ev_th _ (fun z => absurd z c0) (fun _ => ?_)
    refine ev_th _ (fun z => absurd z c1) (fun _ => ?_)
    refine ev_th _ (fun z => absurd z c2) (fun _ => ?_)
    refine ev_th _ (fun z => absurd z c3) (fun _ => ?_)
    refine ev_th _ (fun z => absurd z c4) (fun _ => ?_)
    refine ev_th _ (fun z => absurd z c5) (fun _ => ?_)
    refine ev_th _ (fun z => absurd z c6) (fun _ => ?_)
    refine ev_th _ (fun z => absurd z c7) (fun _ => ?_)
    refine ev_th _ (fun z => absurd z c8) (fun _ => ?_)
    refine ev_th _ (fun z => absurd z c9) (fun _ => ?_)
    refine ev_th _ (fun z => absurd z c10) (fun _ => ?_)
    refine ev_th _ (fun z => absurd z c11) (fun _ => ?_)
    refine ev_th _ (fun z => absurd z c12) (fun _ => ?_)
    refine ev_th _ (fun z => absurd z c13) (fun _ => ?_)
    refine ev_th _ (fun z => absurd z c14) (fun _ => ?_)
    refine ev_th _ (fun z => absurd z c15) (fun _ => ?_)
    refine ev_th _ (fun z => absurd z c16) (fun _ => ?_)
    refine ev_th _ (fun z => absurd z c17) (fun _ => ?_)
    refine ev_th _ (fun z => absurd z c18) (fun _ => ?_)
    refine ev_th _ (fun z => absurd z c19) (fun _ => ?_)
    refine ev_th _ (fun z => absurd z c20) (fun _ => ?_)
    refine ev_th _ (fun z => absurd z c21) (fun _ => ?_)
    refine ev_th _ (fun z => absurd z c22) (fun _ => ?_)
    refine ev_th _ (fun z => absurd z c23) (fun _ => ?_)
    refine ev_th _ (fun z => absurd z c24) (fun _ => ?_)
    refine ev_th _ (fun z => absurd z c25) (fun _ => ?_)
    exact ev_th _ (fun _ => a2) (fun z => absurd c26 z)
  by_cases c27 : s (6 * j) &&& 31 = 27
  · obtain ⟨S2, I2, a2, b2⟩ := cl_count hB h hn hj hN
    refine ⟨S2, I2, st _ ?_, b2⟩
    refine ev_th _ (fun z => absurd z c0) (fun _ => ?_)
    refine ev_th _ (fun z => absurd z c1) (fun _ => ?_)
    refine ev_th _ (fun z => absurd z c2) (fun _ => ?_)
    refine ev_th _ (fun z => absurd z c3) (fun _ => ?_)
    refine ev_th _ (fun z => absurd z c4) (fun _ => ?_)
    refine ev_th _ (fun z => absurd z c5) (fun _ => ?_)
    refine ev_th _ (fun z => absurd z c6) (fun _ => ?_)
    refine ev_th _ (fun z => absurd z c7) (fun _ => ?_)
    refine ev_th _ (fun z => absurd z c8) (fun _ => ?_)
    refine ev_th _ (fun z => absurd z c9) (fun _ => ?_)
    refine ev_th _ (fun z => absurd z c10) (fun _ => ?_)
    refine ev_th _ (fun z => absurd z c11) (fun _ => ?_)
    refine ev_th _ (fun z => absurd z c12) (fun _ => ?_)
    refine ev_th _ (fun z => absurd z c13) (fun _ => ?_)
    refine ev_th _ (fun z => absurd z c14) (fun _ => ?_)
    refine ev_th _ (fun z => absurd z c15) (fun _ => ?_)
    refine ev_th _ (fun z => absurd z c16) (fun _ => ?_)
    refine ev_th _ (fun z => absurd z c17) (fun _ => ?_)
    refine ev_th _ (fun z => absurd z c18) (fun _ => ?_)
    refine ev_th _ (fun z => absurd z c19) (fun _ => ?_)
    refine ev_th _ (fun z => absurd z c20) (fun _ => ?_)
    refine ev_th _ (fun z => absurd z c21) (fun _ => ?_)
    refine ev_th _ (fun z => absurd z c22) (fun _ => ?_)
    refine ev_th _ (fun z => absurd z c23) (fun _ => ?_)
    refine ev_th _ (fun z => absurd z c24) (fun _ => ?_)
    refine ev_th _ (fun z => absurd z c25) (fun _ => ?_)
    refine ev_th _ (fun z => absurd z c26) (fun _ => ?_)
    exact ev_th _ (fun _ => a2) (fun z => absurd c27 z)
  by_cases c28 : s (6 * j) &&& 31 = 28
  · obtain ⟨S2, I2, a2, b2⟩ := cl_trouble hB h hn hj hN
    refine ⟨S2, I2, st _ ?_, b2⟩
    refine ev_th _ (fun z => absurd z c0) (fun _ => ?_)
    refine ev_th _ (fun z => absurd z c1) (fun _ => ?_)
    refine ev_th _ (fun z => absurd z c2) (fun _ => ?_)
    refine ev_th _ (fun z => absurd z c3) (fun _ => ?_)
    refine ev_th _ (fun z => absurd z c4) (fun _ => ?_)
    refine ev_th _ (fun z => absurd z c5) (fun _ => ?_)
    refine ev_th _ (fun z => absurd z c6) (fun _ => ?_)
    refine ev_th _ (fun z => absurd z c7) (fun _ => ?_)
    refine ev_th _ (fun z => absurd z c8) (fun _ => ?_)
    refine ev_th _ (fun z => absurd z c9) (fun _ => ?_)
    refine ev_th _ (fun z => absurd z c10) (fun _ => ?_)
    refine ev_th _ (fun z => absurd z c11) (fun _ => ?_)
    refine ev_th _ (fun z => absurd z c12) (fun _ => ?_)
    refine ev_th _ (fun z => absurd z c13) (fun _ => ?_)
    refine ev_th _ (fun z => absurd z c14) (fun _ => ?_)
    refine ev_th _ (fun z => absurd z c15) (fun _ => ?_)
    refine ev_th _ (fun z => absurd z c16) (fun _ => ?_)
    refine ev_th _ (fun z => absurd z c17) (fun _ => ?_)
    refine ev_th _ (fun z => absurd z c18) (fun _ => ?_)
    refine ev_th _ (fun z => absurd z c19) (fun _ => ?_)
    refine ev_th _ (fun z => absurd z c20) (fun _ => ?_)
    refine ev_th _ (fun z => absurd z c21) (fun _ => ?_)
    refine ev_th _ (fun z => absurd z c22) (fun _ => ?_)
    refine ev_th _ (fun z => absurd z c23) (fun _ => ?_)
    refine ev_th _ (fun z => absurd z c24) (fun _ => ?_)
    refine ev_th _ (fun z => absurd z c25) (fun _ => ?_)
    refine ev_th _ (fun z => absurd z c26) (fun _ => ?_)
    refine ev_th _ (fun z => absurd z c27) (fun _ => ?_)
    exact ev_th _ (fun _ => a2) (fun z => absurd c28 z)
  · obtain ⟨-, -, ⟨-, -, hz⟩, -⟩ := id h
    obtain ⟨S2, I2, a2, b2⟩ := hN S I G h (by omega) (by omega)
    refine ⟨S2, I2, st _ ?_, b2⟩
    refine ev_th _ (fun z => absurd z c0) (fun _ => ?_)
    refine ev_th _ (fun z => absurd z c1) (fun _ => ?_)
    refine ev_th _ (fun z => absurd z c2) (fun _ => ?_)
    refine ev_th _ (fun z => absurd z c3) (fun _ => ?_)
    refine ev_th _ (fun z => absurd z c4) (fun _ => ?_)
    refine ev_th _ (fun z => absurd z c5) (fun _ => ?_)
    refine ev_th _ (fun z => absurd z c6) (fun _ => ?_)
    refine ev_th _ (fun z => absurd z c7) (fun _ => ?_)
    refine ev_th _ (fun z => absurd z c8) (fun _ => ?_)
    refine ev_th _ (fun z => absurd z c9) (fun _ => ?_)
    refine ev_th _ (fun z => absurd z c10) (fun _ => ?_)
    refine ev_th _ (fun z => absurd z c11) (fun _ => ?_)
    refine ev_th _ (fun z => absurd z c12) (fun _ => ?_)
    refine ev_th _ (fun z => absurd z c13) (fun _ => ?_)
    refine ev_th _ (fun z => absurd z c14) (fun _ => ?_)
    refine ev_th _ (fun z => absurd z c15) (fun _ => ?_)
    refine ev_th _ (fun z => absurd z c16) (fun _ => ?_)
    refine ev_th _ (fun z => absurd z c17) (fun _ => ?_)
    refine ev_th _ (fun z => absurd z c18) (fun _ => ?_)
    refine ev_th _ (fun z => absurd z c19) (fun _ => ?_)
    refine ev_th _ (fun z => absurd z c20) (fun _ => ?_)
    refine ev_th _ (fun z => absurd z c21) (fun _ => ?_)
    refine ev_th _ (fun z => absurd z c22) (fun _ => ?_)
    refine ev_th _ (fun z => absurd z c23) (fun _ => ?_)
    refine ev_th _ (fun z => absurd z c24) (fun _ => ?_)
    refine ev_th _ (fun z => absurd z c25) (fun _ => ?_)
    refine ev_th _ (fun z => absurd z c26) (fun _ => ?_)
    refine ev_th _ (fun z => absurd z c27) (fun _ => ?_)
    refine ev_th _ (fun z => absurd z c28) (fun _ => ?_)
    exact cl_1083 a2
/-- all calls -/
theorem cl_all_calls (hB : E.1 ≤ B) (hn : n ≤ 384) : ∀ c j, j + c = n / 6 → ∀ S I G, LR E B b n s S I G → ∃ S2 I2, zAt E 14 215 18 [some (zr (some b)), some (zr (some B)), some (zr (some (B + 318))), some (zi (Int32.ofNat (6 * j)))] [] (zwi S I) (Sum.inl (some (zi 1)), zwi S2 I2) ∧ mS S2 ≤ mS S + 784 * c ∧ mU S2 ≤ mU S + 3926 * c := by
  intro c
  induction c with
  | zero =>
    intro j hj S I G h
    obtain ⟨-, -, -, ⟨hb, kb, nb, sb⟩⟩ := id h
    have e18 := @b_L_law_18
    have e1089 := @b_L_law_1089
    have l : (Int32.ofNat n - 6 < Int32.ofNat (6 * j)) := by
      rw [Int32.lt_iff_toInt_lt, Int32.toInt_sub, i_int (by omega), i_int (by omega), show (6 : Int32).toInt = 6 from rfl, Int.bmod_eq_of_le (by omega) (by omega)]
      omega
    have k101 : Nat.ble 101 (mK (zwi S I) b) = true := by show Nat.ble 101 (mK S b) = true; rw [kb]; rfl
    have hl : (Int32.ofNat (mN (zwi S I) b) - 6 < Int32.ofNat (6 * j)) := by show (Int32.ofNat (mN S b) - 6 < Int32.ofNat (6 * j)); rw [nb]; exact l
    refine ⟨S, I, ?_, by omega, by omega⟩
    refine zat_in zP_L_law zk_L_law_18 ?_
    simp only [e18]
    refine ev_zif k101 ?_
    refine ev_th _ (fun _ => ?_) (fun z => absurd hl z)
    refine ev_bk ?_
    refine zat_in zP_L_law zk_L_law_1089 ?_
    simp (disch := omega) only [e1089, zif, zdr, zkb, mK_wi, mN_wi, mJ_wi, mI_wi, sI_wi, beq_self_eq_true, Bool.true_or, Bool.or_true, Bool.or_false, Bool.and_self, Bool.and_true, Bool.true_and, ↓reduceIte, ble_up0, i_cl, i_succ, zix_of, zfl_k, zup_k, zup_q]
    exact ev_r
  | succ c ih =>
    intro j hj S I G h
    refine cl_go (c := mS S + 784 * (c + 1)) (u := mU S + 3926 * (c + 1)) hB h hn (by omega) (fun S' I' G' h' l1 l2 => ?_)
    obtain ⟨S2, I2, a2, b2, b3⟩ := ih (j + 1) (by omega) S' I' G' h'
    rw [show 6 * (j + 1) = 6 * j + 6 by omega] at a2
    exact ⟨S2, I2, a2, by omega, by omega⟩
end
