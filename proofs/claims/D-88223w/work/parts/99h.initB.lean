/-! ===== the class as a whole is made ===== -/
set_option maxRecDepth 100000
/-- a world at its start -/
def V0 : zT := fun i j => if i = 0 then (if j = 3 then 6 else 0) else if i = 3 then -20 else 0
theorem wP_0 {I : Nat → Nat → Int32} {w : Nat} (h1 : ∀ k, 4 ≤ k → k < 7 → I w k = 0) (h2 : I w 7 = 6) (h3 : ∀ j, I (w + 1) j = 0) (h4 : ∀ j, I (w + 2) j = 0) (h5 : ∀ j, j < 334 → I (w + 3) j = -20) : wP I w V0 := by
  refine ⟨fun j hj => ?_, fun j _ => h3 j, fun j _ => h4 j, h5⟩
  by_cases q : j = 3
  · subst q
    exact h2
  · rw [h1 _ (by omega) (by omega)]
    exact ((if_pos rfl).trans (if_neg q)).symm
section
variable {E : zE} {d B : Nat} {S : zM} {I : Nat → Nat → Int32}
theorem sp_X0_init (hB : E.1 ≤ B) (kB : mK S B = 1) (hS : mS S = B + 1) (hz : ∀ a, mS S ≤ a → mK S a = 0) (hI : ∀ k, I B k = 0) : ∃ S' I', zCl E (d + 5) 28 [zr (some B)] (zwi S I) (Sum.inl none, zwi S' I') ∧ xCS S' B ∧ ((∀ k, k ≠ 15 → I' B k = 0) ∧ I' B 15 = -1 ∧ (∀ j, I' (B + 1) j = 0) ∧ wP I' (B + 5) V0 ∧ wP I' (B + 148) V0) ∧ (mS S' = B + 318 ∧ mU S' ≤ mU S + 28741) ∧ gB B (B + 1) S S' I I' ∧ ∀ a, mS S' ≤ a → mK S' a = 0 := by
  have z400 : zsz 400 = true := by decide
  have z8 : zsz 8 = true := by decide
  have z10 : zsz 10 = true := by decide
  have k400 : Int32.toNatClampNeg 400 = 400 := by decide
  have k8 : Int32.toNatClampNeg 8 = 8 := by decide
  have k10 : Int32.toNatClampNeg 10 = 10 := by decide
  have zz : ∀ {T : zM} (κ f : Nat), (∀ a, mS T ≤ a → mK T a = 0) → ∀ a, mS (zal T κ 0 f) ≤ a → mK (zal T κ 0 f) a = 0 := fun {T} κ f h a ha => by
    have ha : mS T + 1 ≤ a := ha
    rw [mK_al_k (by omega)]
    exact h a (by omega)
  have e0 := @b_X0_init_0
  have e28 := @b_X0_init_28
  have e70 := @b_X0_init_70
  have e88 := @b_X0_init_88
  -- the tape
  have f1 : sB B 0 (mS S) 1 400 S (nA S 102 400 B 0) I (zwn I (mS S)) := sB_A (by omega) hz
  generalize hT1 : nA S 102 400 B 0 = S1 at f1
  generalize hJ1 : zwn I (mS S) = I1 at f1
  obtain ⟨⟨m1, u1⟩, g1, ⟨kb1, nb1⟩, ⟨j1, q1, i1⟩, hz1⟩ := id f1
  have t1k : mK S1 (B + 1) = 102 := by rw [← hT1]; exact nA_Kq (by omega)
  have t1n : mN S1 (B + 1) = 400 := by rw [← hT1]; exact nA_Nq (by omega)
  have t1i : ∀ j, I1 (B + 1) j = 0 := fun j => by rw [← hJ1]; exact zwn_q (by omega)
  have kB1 : mK S1 B = 1 := kb1.trans kB
  -- the reader
  obtain ⟨T3, I3, a3, ⟨p31, p32, p33, p34, p35, p36⟩, c3⟩ := sp_X1_init (E := E) (d := d) (t := mS S1) (S := zal S1 2 0 9) (I := zwn I1 (mS S1)) (ta := B + 1) (by omega) (mK_al_q rfl) (show mS S1 < mS S1 + 1 by omega) (zz 2 9 hz1)
  have k23 : mK T3 (mS S1) = 2 := (c3.2.1 _ (show mS S1 < mS S1 + 1 by omega)).1.trans (mK_al_q rfl)
  have f3 : sB B 2 (mS S1) 3 26 S1 (sJ T3 B 2 (some (mS S1))) I1 I3 := sB_O (by omega) c3.w
  have kB3 : mK T3 B = 1 := f3.2.2.1.1.trans kB1
  generalize hS3 : sJ T3 B 2 (some (mS S1)) = S3 at f3
  obtain ⟨⟨m3, u3⟩, g3, ⟨kb3, nb3⟩, ⟨j3, q3, i3⟩, hz3⟩ := id f3
  have kS3 : mK S3 B = 1 := kb3.trans kB1
  -- now
  obtain ⟨T5, I5, a5, w5, ⟨x51, x52, x53, x54, x55⟩, c51, c52, c53, c54⟩ := sp_X3_init (E := E) (d := d + 2) (w := mS S3) (S := zal S3 4 0 8) (I := zwn I3 (mS S3)) (by omega) (mK_al_q rfl) rfl (zz 4 8 hz3) (fun k => zwn_q rfl)
  have f5 : sB B 3 (mS S3) 143 13080 S3 (sJ T5 B 3 (some (mS S3))) I3 I5 := sB_O (by omega) ⟨c51, c52, c53, c54⟩
  have kB5 : mK T5 B = 1 := f5.2.2.1.1.trans kS3
  have W5 : xWT (sJ T5 B 3 (some (mS S3))) (mS S3) := w5.gr (lo := B + 1) (m := mS S3 + 143) (fun a h1 h2 => ⟨rfl, rfl, fun k => if_neg (by omega)⟩) (by omega) (by omega)
  generalize hS5 : sJ T5 B 3 (some (mS S3)) = S5 at f5 W5
  obtain ⟨⟨m5, u5⟩, g5, ⟨kb5, nb5⟩, ⟨j5, q5, i5⟩, hz5⟩ := id f5
  have kS5 : mK S5 B = 1 := kb5.trans kS3
  -- kept
  obtain ⟨T6, I6, a6, w6, ⟨x61, x62, x63, x64, x65⟩, c61, c62, c63, c64⟩ := sp_X3_init (E := E) (d := d + 2) (w := mS S5) (S := zal S5 4 0 8) (I := zwn I5 (mS S5)) (by omega) (mK_al_q rfl) rfl (zz 4 8 hz5) (fun k => zwn_q rfl)
  have f6 : sB B 4 (mS S5) 143 13080 S5 (sJ T6 B 4 (some (mS S5))) I5 I6 := sB_O (by omega) ⟨c61, c62, c63, c64⟩
  have kB6 : mK T6 B = 1 := f6.2.2.1.1.trans kS5
  have W6 : xWT (sJ T6 B 4 (some (mS S5))) (mS S5) := w6.gr (lo := B + 1) (m := mS S5 + 143) (fun a h1 h2 => ⟨rfl, rfl, fun k => if_neg (by omega)⟩) (by omega) (by omega)
  generalize hS6 : sJ T6 B 4 (some (mS S5)) = S6 at f6 W6
  obtain ⟨⟨m6, u6⟩, g6, ⟨kb6, nb6⟩, ⟨j6, q6, i6⟩, hz6⟩ := id f6
  have kS6 : mK S6 B = 1 := kb6.trans kS5
  -- alone
  obtain ⟨T7, I7, a7, w7, c7⟩ := sp_X4_init (E := E) (d := d + 3) (t := mS S6) (S := zal S6 5 0 20) (I := zwn I6 (mS S6)) (by omega) (mK_al_q rfl) rfl (zz 5 20 hz6)
  have f7 : sB B 5 (mS S6) 23 2118 S6 (sJ T7 B 5 (some (mS S6))) I6 I7 := sB_O (by omega) c7.w
  have kB7 : mK T7 B = 1 := f7.2.2.1.1.trans kS6
  have W7 : xTS (sJ T7 B 5 (some (mS S6))) (mS S6) := w7.gr (lo := B + 1) (m := mS S6 + 23) (fun a h1 h2 => ⟨rfl, rfl, fun k => if_neg (by omega)⟩) (by omega) (by omega)
  generalize hS7 : sJ T7 B 5 (some (mS S6)) = S7 at f7 W7
  obtain ⟨⟨m7, u7⟩, g7, ⟨kb7, nb7⟩, ⟨j7, q7, i7⟩, hz7⟩ := id f7
  have kS7 : mK S7 B = 1 := kb7.trans kS6
  -- plans
  have f8 : sB B 7 (mS S7) 1 8 S7 (nA S7 109 8 B 7) I7 (zwn I7 (mS S7)) := sB_A (by omega) hz7
  generalize hT8 : nA S7 109 8 B 7 = S8 at f8
  generalize hJ8 : zwn I7 (mS S7) = I8 at f8
  obtain ⟨⟨m8, u8⟩, g8, ⟨kb8, nb8⟩, ⟨j8, q8, i8⟩, hz8⟩ := id f8
  have t8k : mK S8 (mS S7) = 109 := by rw [← hT8]; exact nA_Kq rfl
  have t8n : mN S8 (mS S7) = 8 := by rw [← hT8]; exact nA_Nq rfl
  have kS8 : mK S8 B = 1 := kb8.trans kS7
  -- laws
  have f9 : sB B 8 (mS S8) 1 10 S8 (nA S8 110 10 B 8) I8 (zwn I8 (mS S8)) := sB_A (by omega) hz8
  generalize hT9 : nA S8 110 10 B 8 = S9 at f9
  generalize hJ9 : zwn I8 (mS S8) = I9 at f9
  obtain ⟨⟨m9, u9⟩, g9, ⟨kb9, nb9⟩, ⟨j9, q9, i9⟩, hz9⟩ := id f9
  have t9k : mK S9 (mS S8) = 110 := by rw [← hT9]; exact nA_Kq rfl
  have t9n : mN S9 (mS S8) = 10 := by rw [← hT9]; exact nA_Nq rfl
  have kS9 : mK S9 B = 1 := kb9.trans kS8
  -- fresh
  have fa : sB B 9 (mS S9) 1 10 S9 (nA S9 110 10 B 9) I9 (zwn I9 (mS S9)) := sB_A (by omega) hz9
  generalize hTa : nA S9 110 10 B 9 = Sa at fa
  generalize hJa : zwn I9 (mS S9) = Ia at fa
  obtain ⟨⟨ma, ua⟩, ga, ⟨kba, nba⟩, ⟨ja, qa, ia⟩, hza⟩ := id fa
  have tak : mK Sa (mS S9) = 110 := by rw [← hTa]; exact nA_Kq rfl
  have tan : mN Sa (mS S9) = 10 := by rw [← hTa]; exact nA_Nq rfl
  have kSa : mK Sa B = 1 := kba.trans kS9
  -- refused
  obtain ⟨Tb, ab, ⟨b1, b2, b3, b4⟩, cb⟩ := sp_X2_init (E := E) (d := d + 1) (q := mS Sa) (S := zal Sa 3 0 9) (I := zwn Ia (mS Sa)) (by omega) (mK_al_q rfl)
  have fb : sB B 12 (mS Sa) 1 9 Sa (sJ Tb B 12 (some (mS Sa))) Ia (zup (zwn Ia (mS Sa)) (mS Sa) 8 (-1)) := sB_O (n := 0) (u := 0) (by omega) ⟨⟨b3, Nat.le_of_eq b4⟩, fun a _ => ⟨by rw [b1], by rw [b2]⟩, fun a i _ h => ⟨cb a i h, zup_k (by omega)⟩, fun a ha => by rw [b1]; exact zz 3 9 hza a (by rw [← b3]; exact ha)⟩
  have kBb : mK Tb B = 1 := fb.2.2.1.1.trans kSa
  have tbk : mK (sJ Tb B 12 (some (mS Sa))) (mS Sa) = 3 := by
    show mK Tb (mS Sa) = 3
    rw [b1]
    exact mK_al_q rfl
  obtain ⟨Sb, hSb⟩ : ∃ Sb, Sb = sJ Tb B 12 (some (mS Sa)) := ⟨_, rfl⟩
  obtain ⟨Ib, hIb⟩ : ∃ Ib, Ib = zup (zwn Ia (mS Sa)) (mS Sa) 8 (-1) := ⟨_, rfl⟩
  rw [← hSb, ← hIb] at fb
  rw [← hSb] at tbk
  obtain ⟨⟨mb, ub⟩, gb, ⟨kbb, nbb⟩, ⟨jb, qb, ib'⟩, hzb⟩ := id fb
  have kSb : mK Sb B = 1 := kbb.trans kSa
  -- what stays to the end
  have Ga : gB B (mS Sa) Sa Sb Ia Ib := gb
  have G9 : gB B (mS S9) S9 Sb I9 Ib := ga.tr Ga (by omega)
  have G8 : gB B (mS S8) S8 Sb I8 Ib := g9.tr G9 (by omega)
  have G7 : gB B (mS S7) S7 Sb I7 Ib := g8.tr G8 (by omega)
  have G6 : gB B (mS S6) S6 Sb I6 Ib := g7.tr G7 (by omega)
  have G5 : gB B (mS S5) S5 Sb I5 Ib := g6.tr G6 (by omega)
  have G3 : gB B (mS S3) S3 Sb I3 Ib := g5.tr G5 (by omega)
  have G1 : gB B (mS S1) S1 Sb I1 Ib := g3.tr G3 (by omega)
  have G0 : gB B (mS S) S Sb I Ib := g1.tr G1 (by omega)
  have n1 : mS S1 = B + 2 := by omega
  have n3 : mS S3 = B + 5 := by omega
  have n5 : mS S5 = B + 148 := by omega
  have n6 : mS S6 = B + 291 := by omega
  have n7 : mS S7 = B + 314 := by omega
  have n8 : mS S8 = B + 315 := by omega
  have n9 : mS S9 = B + 316 := by omega
  have na : mS Sa = B + 317 := by omega
  have nb : mS Sb = B + 318 := by omega
  rw [n1] at q3 p31 p32 p33 p34 p35 p36 k23
  have p31 : mJ T3 (B + 2) 0 = some (B + 2 + 1) := p31
  have p32 : mK T3 (B + 2 + 1) = 3 := p32
  have p34 : mJ T3 (B + 2) 2 = some (B + 2 + 1 + 1) := p34
  have p35 : mK T3 (B + 2 + 1 + 1) = 103 := p35
  have p36 : mN T3 (B + 2 + 1 + 1) = 8 := p36
  rw [n3] at q5 W5 x51 x52 x53 x54 x55
  rw [n5] at q6 W6 x61 x62 x63 x64 x65
  rw [n6] at q7 W7
  rw [n7] at q8 t8k t8n
  rw [n8] at q9 t9k t9n
  rw [n9] at qa tak tan
  rw [na] at qb tbk
  refine ⟨Sb, zup Ib B 15 (-1), ?_, ⟨kSb, ⟨?_, ?_, ?_⟩, ?_, ?_, ?_, ⟨?_, ?_, ?_⟩, ⟨?_, ?_, ?_⟩, ⟨?_, ?_, ?_⟩, ⟨qb, tbk⟩, ⟨?_, ?_, ?_⟩, ?_, ?_, ⟨?_, ?_⟩, ?_, ?_, ?_, ?_⟩, ⟨fun k hk => ?_, zup_q _ _ _ _, fun j => ?_, ?_, ?_⟩, ⟨nb, by omega⟩, fun a h1 h2 => ?_, hzb⟩
  · have al : ∀ (T : zM) (κ n f : Nat), B < mS T → mK (zal T κ n f) B = mK T B := fun T κ n f h => mK_al_k (by omega)
    have jz : mJ (zal S1 2 0 9) B 0 = some (B + 1) := (mJ_al_k (by omega)).trans (q1.trans (congrArg some hS))
    have kBc : mK (sJ Tb B 12 (some (mS Sa))) B = 1 := kBb
    refine zcl_in' zP_X0_init ?_; rw [zn_1_1]
    refine zat_in zP_X0_init zk_X0_init_0 ?_
    simp (disch := omega) only [e0, zif, zdr, zkb, mK_wi, mN_wi, mJ_wi, mI_wi, sI_wi, beq_self_eq_true, Bool.true_or, Bool.or_true, Bool.or_false, Bool.and_self, Bool.and_true, Bool.true_and, ↓reduceIte, ble_up0, i_cl, i_succ, zix_of, zfl_k, zup_k, zup_q, z400, k400, al_wi, sJ_wi, mS_wi, nA_e, hT1, hJ1, al, kB, kB1, jz]
    refine ev_cv a3 ?_
    try simp (disch := omega) only [zif, zdr, zkb, mK_wi, mN_wi, mJ_wi, mI_wi, sI_wi, beq_self_eq_true, Bool.true_or, Bool.or_true, Bool.or_false, Bool.and_self, Bool.and_true, Bool.true_and, ↓reduceIte, ble_up0, i_cl, i_succ, zix_of, zfl_k, zup_k, zup_q, kB3, sJ_wi, mS_wi, hS3]
    refine ev_tl zP_X0_init zk_X0_init_28 ?_
    refine zat_in zP_X0_init zk_X0_init_28 ?_
    simp only [e28, al_wi, mS_wi]
    refine ev_cv a5 ?_
    try simp (disch := omega) only [zif, zdr, zkb, mK_wi, mN_wi, mJ_wi, mI_wi, sI_wi, beq_self_eq_true, Bool.true_or, Bool.or_true, Bool.or_false, Bool.and_self, Bool.and_true, Bool.true_and, ↓reduceIte, ble_up0, i_cl, i_succ, zix_of, zfl_k, zup_k, zup_q, kB5, sJ_wi, hS5, al_wi, mS_wi]
    refine ev_cv a6 ?_
    try simp (disch := omega) only [zif, zdr, zkb, mK_wi, mN_wi, mJ_wi, mI_wi, sI_wi, beq_self_eq_true, Bool.true_or, Bool.or_true, Bool.or_false, Bool.and_self, Bool.and_true, Bool.true_and, ↓reduceIte, ble_up0, i_cl, i_succ, zix_of, zfl_k, zup_k, zup_q, kB6, sJ_wi, hS6, al_wi, mS_wi]
    refine ev_cv a7 ?_
    try simp (disch := omega) only [zif, zdr, zkb, mK_wi, mN_wi, mJ_wi, mI_wi, sI_wi, beq_self_eq_true, Bool.true_or, Bool.or_true, Bool.or_false, Bool.and_self, Bool.and_true, Bool.true_and, ↓reduceIte, ble_up0, i_cl, i_succ, zix_of, zfl_k, zup_k, zup_q, kB7, sJ_wi, hS7, al_wi, mS_wi, z8, k8, nA_e, hT8, hJ8, al, kS7]
    refine ev_tl zP_X0_init zk_X0_init_70 ?_
    refine zat_in zP_X0_init zk_X0_init_70 ?_
    simp (disch := omega) only [e70, zif, zdr, zkb, mK_wi, mN_wi, mJ_wi, mI_wi, sI_wi, beq_self_eq_true, Bool.true_or, Bool.or_true, Bool.or_false, Bool.and_self, Bool.and_true, Bool.true_and, ↓reduceIte, ble_up0, i_cl, i_succ, zix_of, zfl_k, zup_k, zup_q, z10, k10, al_wi, sJ_wi, mS_wi, nA_e, hT9, hJ9, hTa, hJa, al, kS8, kS9]
    refine ev_tl zP_X0_init zk_X0_init_88 ?_
    refine zat_in zP_X0_init zk_X0_init_88 ?_
    simp only [e88, al_wi, mS_wi]
    refine ev_cv ab ?_
    try simp (disch := omega) only [zif, zdr, zkb, mK_wi, mN_wi, mJ_wi, mI_wi, sI_wi, beq_self_eq_true, Bool.true_or, Bool.or_true, Bool.or_false, Bool.and_self, Bool.and_true, Bool.true_and, ↓reduceIte, ble_up0, i_cl, i_succ, zix_of, zfl_k, zup_k, zup_q, kBb, kBc, sJ_wi, mS_wi]
    rw [hSb, hIb]
    exact ev_r
  · rw [jb _ (by omega), ja _ (by omega), j9 _ (by omega), j8 _ (by omega), j7 _ (by omega), j6 _ (by omega)]
    exact q5
  · rw [jb _ (by omega), ja _ (by omega), j9 _ (by omega), j8 _ (by omega), j7 _ (by omega)]
    exact q6
  · rw [jb _ (by omega), ja _ (by omega), j9 _ (by omega), j8 _ (by omega)]
    exact q7
  · exact W5.gr (G5.z (lo := B + 1) (by omega)) (by omega) (by omega)
  · exact W6.gr (G6.z (lo := B + 1) (by omega)) (by omega) (by omega)
  · exact W7.gr (G7.z (lo := B + 1) (by omega)) (by omega) (by omega)
  · rw [jb _ (by omega), ja _ (by omega), j9 _ (by omega)]
    exact q8
  · exact (G8 _ (by omega) (by omega)).1.trans t8k
  · exact (G8 _ (by omega) (by omega)).2.1.trans t8n
  · rw [jb _ (by omega), ja _ (by omega)]
    exact q9
  · exact (G9 _ (by omega) (by omega)).1.trans t9k
  · exact (G9 _ (by omega) (by omega)).2.1.trans t9n
  · rw [jb _ (by omega)]
    exact qa
  · exact (Ga _ (by omega) (by omega)).1.trans tak
  · exact (Ga _ (by omega) (by omega)).2.1.trans tan
  · rw [jb _ (by omega), ja _ (by omega), j9 _ (by omega), j8 _ (by omega), j7 _ (by omega), j6 _ (by omega), j5 _ (by omega), j3 _ (by omega), q1, hS]
  · exact (G1 _ (by omega) (by omega)).1.trans t1k
  · exact (G1 _ (by omega) (by omega)).2.1.trans t1n
  · rw [jb _ (by omega), ja _ (by omega), j9 _ (by omega), j8 _ (by omega), j7 _ (by omega), j6 _ (by omega), j5 _ (by omega)]
    exact q3
  · exact (G3 _ (by omega) (by omega)).1.trans (by rw [← hS3]; exact k23)
  · refine ((G3 _ (by omega) (by omega)).2.2 0).1.trans ?_
    rw [← hS3]
    exact (if_neg (by omega)).trans p31
  · exact (G3 _ (by omega) (by omega)).1.trans (by rw [← hS3]; exact p32)
  · refine ((G3 _ (by omega) (by omega)).2.2 1).1.trans ?_
    rw [← hS3]
    exact (if_neg (by omega)).trans p33
  · refine ((G3 _ (by omega) (by omega)).2.2 2).1.trans ?_
    rw [← hS3]
    exact (if_neg (by omega)).trans p34
  · exact (G3 _ (by omega) (by omega)).1.trans (by rw [← hS3]; exact p35)
  · exact (G3 _ (by omega) (by omega)).2.1.trans (by rw [← hS3]; exact p36)
  · rw [zup_k (by omega), ib', ia, i9, i8, i7, i6, i5, i3, i1]
    exact hI k
  · rw [zup_k (by omega), ((G1 _ (by omega) (by omega)).2.2 j).2]
    exact t1i j
  · refine wP_0 (fun k hk hk2 => ?_) ?_ (fun j => ?_) (fun j => ?_) (fun j hj => ?_)
    · rw [zup_k (by omega), ((G5 _ (by omega) (by omega)).2.2 k).2]
      exact x51 k (by omega)
    · rw [zup_k (by omega), ((G5 _ (by omega) (by omega)).2.2 7).2]
      exact x52
    · rw [zup_k (by omega), ((G5 _ (by omega) (by omega)).2.2 j).2]
      exact x53 j
    · rw [zup_k (by omega), ((G5 _ (by omega) (by omega)).2.2 j).2]
      exact x54 j
    · rw [zup_k (by omega), ((G5 _ (by omega) (by omega)).2.2 j).2]
      exact x55 j hj
  · refine wP_0 (fun k hk hk2 => ?_) ?_ (fun j => ?_) (fun j => ?_) (fun j hj => ?_)
    · rw [zup_k (by omega), ((G6 _ (by omega) (by omega)).2.2 k).2]
      exact x61 k (by omega)
    · rw [zup_k (by omega), ((G6 _ (by omega) (by omega)).2.2 7).2]
      exact x62
    · rw [zup_k (by omega), ((G6 _ (by omega) (by omega)).2.2 j).2]
      exact x63 j
    · rw [zup_k (by omega), ((G6 _ (by omega) (by omega)).2.2 j).2]
      exact x64 j
    · rw [zup_k (by omega), ((G6 _ (by omega) (by omega)).2.2 j).2]
      exact x65 j hj
  · obtain ⟨y1, y2, y3⟩ := G0 a h1 (by omega)
    exact ⟨y1, y2, fun k => ⟨(y3 k).1, (zup_k (by omega)).trans (y3 k).2⟩⟩
end
