/-! ===== the step: copies, calls, throws, ends ===== -/
theorem zcpf_b {α : Type} (f : Nat → Nat → α) (a b sp dp n j : Nat) : zcpf f a b sp dp n b j = if dp ≤ j ∧ j < dp + n then f a (sp + (j - dp)) else f b j := by
  unfold zcpf
  by_cases h : dp ≤ j ∧ j < dp + n <;> simp [h]
theorem zcpf_o {α : Type} (f : Nat → Nat → α) (a b sp dp n x j : Nat) (h : x ≠ b) : zcpf f a b sp dp n x j = f x j := if_neg fun q => h q.1
theorem zck_at {M : zM} {a sp n : Nat} (h : zck M a sp n = true) {j : Nat} (hj : j < n) : mJ M a (sp + j) = none ∨ ∃ b, mJ M a (sp + j) = some b ∧ mK M b ∈ [13, 14, 15, 16] := by
  have h1 := List.all_eq_true.mp h j (List.mem_range.mpr hj)
  cases hm : mJ M a (sp + j) with
  | none => exact Or.inl rfl
  | some b =>
    rw [hm] at h1
    exact Or.inr ⟨b, rfl, zkb_inv h1⟩
theorem zlaw_in {κ : Nat} (h : κ ∈ [13, 14, 15, 16]) : ∃ (ci : Nat) (q : vw_C), κ = ci + 1 ∧ zcl[ci]? = some q ∧ Cond.castable q.1 "SledHouse$Law" ∈ zxw := by
  simp only [List.mem_cons, List.not_mem_nil, or_false] at h
  rcases h with h | h | h | h <;> subst h
  · exact ⟨12, _, rfl, rfl, by simp [zxw, RX13]⟩
  · exact ⟨13, _, rfl, rfl, by simp [zxw, RX14]⟩
  · exact ⟨14, _, rfl, rfl, by simp [zxw, RX15]⟩
  · exact ⟨15, _, rfl, rfl, by simp [zxw, RX16]⟩
theorem zcat_as {w : zV} {as : List zV} (h : (zvv w).category = 1) (h1 : ∀ v ∈ as, (zvv v).category = 1) : ∀ v ∈ w :: (as.reverse ++ []), (zvv v).category = 1 := by
  intro v hv
  rcases List.mem_cons.mp hv with hv | hv
  · rw [hv]; exact h
  · exact h1 v (by simpa using hv)
section ZMAIN4
variable {p : Program} {l : Launch} {e : Env} {R : Room} {s : State} {m : MethodId} {args : Array Value} {below : List Frame} {meth : Method} {c : Code} {Q : State → Prop}
variable {cc : ByteArray} {pc nxt len nL d : Nat} {D : zD} {E : zE} {M M0 M9 : zM} {own : String} {lg : Bool} {rt : Option FieldType} {ini : Prop} {o : Option zV ⊕ Nat} {ls : zL} {st : List zV} {zml : List zY} {hh : List Nat} {i : Instr} {v : Int32} {x : List Nat}
variable {cf : Nat → List zV → zM → Option zR} {bk : Nat → zL → List zV → zM → Option zR} {k : zL → List zV → zM → Option zR}
/-- the handlers -/
def zTh (p : Program) (l : Launch) (e : Env) (R : Room) (s : State) (m : MethodId) (args : Array Value) (below : List Frame) (meth : Method) (c : Code) (Q : State → Prop) (D : zD) (E : zE) (nL : Nat) (lg : Bool) (M0 M9 : zM) (o : Option zV ⊕ Nat) (bk : Nat → zL → List zV → zM → Option zR) (hh : List Nat) : Prop :=
  ∀ (pc : Nat) (ls : zL) (q : Nat) (M : zM), zth bk hh pc ls q M = some (o, M9) → (mS M ≤ mS M9 ∧ mU M ≤ mU M9) ∧ (zKnd E M q → zXo p l e R s m args below meth c Q D E nL lg M0 M9 pc ls q M)
theorem zs_copy {idx : Nat} {spI dpI nI : Int32} {M1 : zM} {a b i2 : Nat} {t : FieldType} {r : List zV} (hF : zFx p s m args meth c D E own cc nL ini) (hR : zRo R d M0 M9) (hk : ∀ (ls : zL) (st : List zV) (M : zM), k ls st M = some (o, M9) → zGo p l e R s m args below meth c Q D E nL lg M0 M9 (pc + 3) ls st M) (h : k ls r M1 = some (o, M9)) (hd : decode cc pc = .ok (.invokestatic idx, 3)) (hlink : Cond.methodLink own idx arraycopyName ∈ lw_all)
    (hi : zat[i2]? = some t) (hka : mK M a = 101 + i2) (hkb : mK M b = 101 + i2) (hB : (Nat.ble E.1 a && Nat.ble E.1 b) = true) (h1 : (decide (0 ≤ spI) && decide (0 ≤ dpI) && decide (0 ≤ nI) && decide (spI.toNatClampNeg + nI.toNatClampNeg ≤ mN M a) && decide (dpI.toNatClampNeg + nI.toNatClampNeg ≤ mN M b)) = true) (h8 : Nat.ble (zsm r) 8 = true)
    (hel : ∀ H : Heap, zRep D E s M H → ∀ j : Nat, j < nI.toNatClampNeg → fits t (zval M a (spI.toNatClampNeg + j) t) = true ∧ ∀ (vm' : Vm) (dComp : ClassId) (kd : Class) (T : State), T.heap = H → s.vm.Alike vm' → s.vm.classes[D.2 i2]? = some kd → kd.kind = .array dComp t → (T.setVm vm').takes dComp (zval M a (spI.toNatClampNeg + j) t))
    (hS : mS M1 = mS M) (hU : mU M1 = mU M) (hKK : mK M1 = mK M) (hNN : mN M1 = mN M) (hJ : ∀ x j, x ≠ b → mJ M1 x j = mJ M x j) (hI : ∀ x j, x ≠ b → mI M1 x j = mI M x j) (hG9 : ∀ x j, x ≠ b → mG M1 x j = mG M x j)
    (hv : ∀ j, zval M1 b j t = if dpI.toNatClampNeg ≤ j ∧ j < dpI.toNatClampNeg + nI.toNatClampNeg then zval M a (spI.toNatClampNeg + (j - dpI.toNatClampNeg)) t else zval M b j t) : zGo p l e R s m args below meth c Q D E nL lg M0 M9 pc ls (zi nI :: zi dpI :: zr (some b) :: zi spI :: zr (some a) :: r) M := by
  obtain ⟨hx, hb, hml, hown, hts, hG, hini⟩ := hF
  simp only [Bool.and_eq_true, decide_eq_true_eq] at h1 hB
  obtain ⟨⟨⟨⟨h11, h12⟩, h13⟩, h14⟩, h15⟩ := h1
  obtain ⟨hm, hw⟩ := hk _ _ _ h
  rw [hS, hU] at hm
  refine ⟨hm, fun arr H locs g1 g2 g3 g4 g5 => ?_⟩
  have hr8 : ((r.map zvv).map fun v => v.category).sum ≤ 8 := by rw [zsm_cat]; exact Nat.le_of_ble_eq_true h8
  refine z_copy (M' := M1) hx hb (by rw [hml]; exact g1.1.1.symm) hown (hts _ hlink) (hts _ q834) (hts _ q833) (hts _ q77) hG.1 g2 g3 hi hka hkb (Nat.le_of_ble_eq_true hB.1) (Nat.le_of_ble_eq_true hB.2) h11 h12 h13 h14 h15 (hel H g2) (by have := hR.1; omega) ?_ hd hS hKK hNN hJ hI hG9 hv (fun H' locs' r1 r2 => ?_)
  · have h9 : nativeFrameWords "java/lang/System" "arraycopy" 5 + 11 ≤ 24 := by decide +kernel
    have := hR.2.1
    omega
  · have h9 := hw arr H' locs' g1 r1 r2 (by rw [hS]; exact g4) (by rw [hU]; exact g5)
    rw [hS, hU] at h9
    exact h9
/-- behind a call -/
theorem zs_aft {o1 : Option zV ⊕ Nat} {M1 : zM} {r st : List zV} {a1 : Array Value} (hth : zTh p l e R s m args below meth c Q D E nL lg M0 M9 o bk hh) (hk : ∀ (ls : zL) (st : List zV) (M : zM), k ls st M = some (o, M9) → zGo p l e R s m args below meth c Q D E nL lg M0 M9 (pc + 3) ls st M)
    (h6 : (∃ v : Option zV, o1 = Sum.inl v ∧ k ls (v.toList ++ r) M1 = some (o, M9)) ∨ ∃ q, o1 = Sum.inr q ∧ zth bk hh pc ls q M1 = some (o, M9)) (m1 : mS M ≤ mS M1) (m2 : mU M ≤ mU M1)
    (hrun : ∀ (arr : Array Slot) (H : Heap) (locs : List Loc), zLR arr nL lg ls → zRep D E s M H → va_S (fun x => E.1 ≤ x) s.heap H locs → mS M0 ≤ mS M → mU M0 ≤ mU M → mS M1 ≤ mS M9 → mU M1 ≤ mU M9 → vx_Run p l e R s m args below meth c H locs (mS M - mS M0) (mU M - mU M0) (mS M1 - mS M) (mU M1 - mU M) (F0 m pc arr (st.map zvv)) (r.map zvv) (zQc D E o1 M1 a1) (zXC D E o1 M1) (fun x => E.1 ≤ x)) : zGo p l e R s m args below meth c Q D E nL lg M0 M9 pc ls st M := by
  have hm : mS M1 ≤ mS M9 ∧ mU M1 ≤ mU M9 := by
    rcases h6 with ⟨v, -, h⟩ | ⟨q, -, h⟩
    · exact (hk _ _ _ h).1
    · exact (hth _ _ _ _ h).1
  refine ⟨⟨Nat.le_trans m1 hm.1, Nat.le_trans m2 hm.2⟩, fun arr H locs g1 g2 g3 g4 g5 => ?_⟩
  refine z_after (M9 := M9) (hrun arr H locs g1 g2 g3 g4 g5 hm.1 hm.2) g1 g3 g4 g5 m1 m2 (fun v hv => ?_) (fun q hq hKn => ?_)
  · rcases h6 with ⟨v', e1, h⟩ | ⟨q, e1, h⟩
    · cases hv.symm.trans e1
      exact hk _ _ _ h
    · cases hv.symm.trans e1
  · rcases h6 with ⟨v', e1, h⟩ | ⟨q', e1, h⟩
    · cases hq.symm.trans e1
    · cases hq.symm.trans e1
      exact (hth _ _ _ _ h).2 hKn
theorem zPc_in {as : List zV} {H : Heap} {locs : List Loc} (hG : zG D E s s.heap) (g2 : zRep D E s M H) (g3 : va_S (fun x => E.1 ≤ x) s.heap H locs) : ∀ U : State, U.heap = H → s.WarmedH U.vm → zPc D E as M (as.map zvv).toArray U := fun U hU hW =>
  ⟨rfl, zG.next hW (fun a h1 h2 => by rw [hU]; exact g3.2.1 a h1 h2) hG, by rw [hU]; exact g2.moved hW.alike⟩
theorem z_rm {L d2 : Nat} (hR : zRo R d M0 M9) (hd2 : d = d2 + 1) (hL : L ≤ 13) {mc ms : Nat} : (zrm d2 mc ms).frames + 1 ≤ R.frames ∧ 8 + (L + 11) + (zrm d2 mc ms).locals ≤ R.locals := by
  obtain ⟨h1, h2, -⟩ := hR
  constructor
  · show d2 + 1 + 1 ≤ R.frames
    omega
  · show 8 + (L + 11) + 32 * (d2 + 1) ≤ R.locals
    omega
theorem z_cel {a b c2 c9 r : Nat} (h1 : a ≤ b) (h2 : b ≤ c2) (h3 : c2 ≤ c9) (h4 : c9 - a ≤ r) : b - a + (c2 - b) ≤ r := by omega
theorem zs_invokevirtual_ok {idx : Nat} (hF : zFx p s m args meth c D E own cc nL ini) (hR : zRo R d M0 M9) (hcf : zCf l D E zml d cf) (hth : zTh p l e R s m args below meth c Q D E nL lg M0 M9 o bk hh) (hk : ∀ (ls : zL) (st : List zV) (M : zM), k ls st M = some (o, M9) → zGo p l e R s m args below meth c Q D E nL lg M0 M9 nxt ls st M) (h : zst E cf bk hh k pc (.invokevirtual idx) v x ls st M = some (o, M9)) (hd : decode cc pc = .ok (.invokevirtual idx, len)) (hl : zlk zml own nL lg rt ini pc len nxt (.invokevirtual idx) v x) : zGo p l e R s m args below meth c Q D E nL lg M0 M9 pc ls st M := by
  obtain ⟨hx, hb, hml, hown, hts, hG, hini⟩ := hF
  rcases hl with rfl | ⟨rfl, rfl, t, n, ps, rfl, hps⟩
  · obtain ⟨as, r1, rfl, hn, hc1, h1⟩ := ztk_inv h
    obtain ⟨ob, r, rfl, h2⟩ := zpr_inv h1
    obtain ⟨a, rfl, h3⟩ := zdr_inv h2
    obtain ⟨pre, suf, y, e1, e2, h4⟩ := zvc_inv h3
    simp at e1
  · obtain ⟨as, r1, rfl, hn, hc1, h1⟩ := ztk_inv h
    obtain ⟨ob, r, rfl, h2⟩ := zpr_inv h1
    obtain ⟨a, rfl, h3⟩ := zdr_inv h2
    obtain ⟨pre, suf, y, e1, e2, h4⟩ := zvc_inv h3
    obtain ⟨ci, q, rr, e3, e4, e5, e6, e7⟩ := zvps_in hps e1 e2
    obtain ⟨h8, o1, M1, h5, h6⟩ := zcall_inv h4
    obtain ⟨m1, m2, d2, hd2, h7⟩ := hcf _ _ _ _ _ h5
    obtain ⟨w1, w2, w30⟩ := h7 _ e5
    have w3 := w30 (zcat_as (zcat_r (some a)) hc1) (by rw [List.length_cons, List.append_nil, List.length_reverse, show as.length = n from hn]; exact e7)
    refine zs_aft (a1 := (Value.ref a :: (as.reverse ++ []).map zvv).toArray) hth hk h6 m1 m2 (fun arr H locs g1 g2 g3 g4 g5 m3 m4 => ?_)
    refine z_runV (As := (as.reverse ++ []).map zvv) ⟨hx, hb, hml, hown, hts⟩ hG.2.1 w3 w1 e6 rfl rfl (z_rm hR hd2 w2) ⟨zPc_blind, z_recv hG.1 g2 e4 e3, zPc_in hG g2 g3⟩ rfl (by rw [List.length_map, List.append_nil, List.length_reverse]; exact hn) g1.1.1 ?_ ?_ hd ⟨z_cel g4 m1 m3 hR.2.2.1, z_cel g5 m2 m4 hR.2.2.2⟩
    · show (as ++ zr (some a) :: r).map zvv = _
      rw [List.append_nil, List.map_append, List.map_reverse, List.reverse_reverse]
      rfl
    · show 2 * 0 + _ ≤ 8
      rw [zsm_cat]
      omega
theorem zs_invokespecial_ok {idx : Nat} (hF : zFx p s m args meth c D E own cc nL ini) (hR : zRo R d M0 M9) (hcf : zCf l D E zml d cf) (hth : zTh p l e R s m args below meth c Q D E nL lg M0 M9 o bk hh) (hk : ∀ (ls : zL) (st : List zV) (M : zM), k ls st M = some (o, M9) → zGo p l e R s m args below meth c Q D E nL lg M0 M9 nxt ls st M) (h : zst E cf bk hh k pc (.invokespecial idx) v x ls st M = some (o, M9)) (hd : decode cc pc = .ok (.invokespecial idx, len)) (hl : zlk zml own nL lg rt ini pc len nxt (.invokespecial idx) v x) : zGo p l e R s m args below meth c Q D E nL lg M0 M9 pc ls st M := by
  obtain ⟨hx, hb, hml, hown, hts, hG, hini⟩ := hF
  rcases hl with rfl | ⟨rfl, rfl, ⟨rfl, hlk⟩ | ⟨t, n, y, rr, rfl, e5, e6, e7⟩ | ⟨t, n, y, ci, q, rr, rfl, e4, e5, e6, e7⟩⟩
  · cases h
  · obtain ⟨ob, r, rfl, h1⟩ := zpr_inv h
    obtain ⟨a, rfl, h2⟩ := zdr_inv h1
    obtain ⟨h8, h3⟩ := zif_inv h2
    obtain ⟨hm, hw⟩ := hk _ _ _ h3
    refine ⟨hm, fun arr H locs g1 g2 g3 g4 g5 => ?_⟩
    have h9 := Nat.le_of_ble_eq_true h8
    refine W.objInit hx hb hown (hts _ hlk) (hts _ q85) (hts _ q86) (g := F0 m pc arr ((zr (some a) :: r).map zvv)) rfl (by rw [hml]; exact g1.1.1) (a := a) (rest := r.map zvv) rfl hd (by have := hR.1; omega) ?_ (hw arr H locs g1 g2 g3 g4 g5)
    show 2 * 0 + _ + 12 ≤ _
    rw [zsm_cat]
    have := hR.2.1
    omega
  · obtain ⟨as, r1, rfl, hn, hc1, h1⟩ := ztk_inv (n := n) (acc := []) h
    obtain ⟨ob, r, rfl, h2⟩ := zpr_inv h1
    obtain ⟨a, rfl, h4⟩ := zdr_inv h2
    obtain ⟨h8, o1, M1, h5, h6⟩ := zcall_inv h4
    obtain ⟨m1, m2, d2, hd2, h7⟩ := hcf _ _ _ _ _ h5
    obtain ⟨w1, w2, w30⟩ := h7 _ e5
    have w3 := w30 (zcat_as (zcat_r (some a)) hc1) (by rw [List.length_cons, List.append_nil, List.length_reverse, show as.length = n from hn]; exact e7)
    refine zs_aft (a1 := (Value.ref a :: (as.reverse ++ []).map zvv).toArray) hth hk h6 m1 m2 (fun arr H locs g1 g2 g3 g4 g5 m3 m4 => ?_)
    refine z_runI (As := (as.reverse ++ []).map zvv) ⟨hx, hb, hml, hown, hts⟩ hG.2.1 w3 w1 e6 rfl rfl (z_rm hR hd2 w2) ⟨zPc_blind, zPc_in hG g2 g3⟩ rfl (by simpa using hn) g1.1.1 ?_ ?_ hd ⟨z_cel g4 m1 m3 hR.2.2.1, z_cel g5 m2 m4 hR.2.2.2⟩
    · show (as ++ zr (some a) :: r).map zvv = _
      rw [List.append_nil, List.map_append, List.map_reverse, List.reverse_reverse]
      rfl
    · show 2 * 0 + _ ≤ 8
      rw [zsm_cat]
      omega
  · obtain ⟨as, r1, rfl, hn, hc1, h1⟩ := ztk_inv (n := n) (acc := []) h
    obtain ⟨ob, r, rfl, h2⟩ := zpr_inv h1
    obtain ⟨a, rfl, h3⟩ := zdr_inv h2
    obtain ⟨e3, h4⟩ := zif_inv h3
    obtain ⟨h8, o1, M1, h5, h6⟩ := zcall_inv h4
    obtain ⟨m1, m2, d2, hd2, h7⟩ := hcf _ _ _ _ _ h5
    obtain ⟨w1, w2, w30⟩ := h7 _ e5
    have w3 := w30 (zcat_as (zcat_r (some a)) hc1) (by rw [List.length_cons, List.append_nil, List.length_reverse, show as.length = n from hn]; exact e7)
    refine zs_aft (a1 := (Value.ref a :: (as.reverse ++ []).map zvv).toArray) hth hk h6 m1 m2 (fun arr H locs g1 g2 g3 g4 g5 m3 m4 => ?_)
    refine z_runU (C := q.1) (As := (as.reverse ++ []).map zvv) (hG.1.1 ci q e4).2 ⟨hx, hb, hml, hown, hts⟩ w3 w1 e6 rfl rfl (z_rm hR hd2 w2) ⟨zPc_blind, z_recv hG.1 g2 e4 (eq_of_beq e3), zPc_in hG g2 g3⟩ rfl (by simpa using hn) g1.1.1 ?_ ?_ hd ⟨z_cel g4 m1 m3 hR.2.2.1, z_cel g5 m2 m4 hR.2.2.2⟩
    · show (as ++ zr (some a) :: r).map zvv = _
      rw [List.append_nil, List.map_append, List.map_reverse, List.reverse_reverse]
      rfl
    · show 2 * 0 + _ ≤ 8
      rw [zsm_cat]
      omega
theorem zs_invokestatic_ok {idx : Nat} (hF : zFx p s m args meth c D E own cc nL ini) (hR : zRo R d M0 M9) (hcf : zCf l D E zml d cf) (hth : zTh p l e R s m args below meth c Q D E nL lg M0 M9 o bk hh) (hk : ∀ (ls : zL) (st : List zV) (M : zM), k ls st M = some (o, M9) → zGo p l e R s m args below meth c Q D E nL lg M0 M9 nxt ls st M) (h : zst E cf bk hh k pc (.invokestatic idx) v x ls st M = some (o, M9)) (hd : decode cc pc = .ok (.invokestatic idx, len)) (hl : zlk zml own nL lg rt ini pc len nxt (.invokestatic idx) v x) : zGo p l e R s m args below meth c Q D E nL lg M0 M9 pc ls st M := by
  have hF0 := hF
  obtain ⟨hx, hb, hml, hown, hts, hG, hini⟩ := hF
  rcases hl with rfl | ⟨rfl, rfl, ⟨rfl, hlk⟩ | ⟨rfl, hlk⟩ | ⟨t, n, y, rr, rfl, e5, e6, e7⟩⟩
  · cases h
  · obtain ⟨n, dp, r1, rfl, h1⟩ := zp2_inv h
    obtain ⟨o2, r2, rfl, h2⟩ := zpr_inv h1
    obtain ⟨sp, r3, rfl, h3⟩ := zp1_inv h2
    obtain ⟨o1, r, rfl, h4⟩ := zpr_inv h3
    obtain ⟨a, rfl, h5⟩ := zdr_inv h4
    obtain ⟨b, rfl, h6⟩ := zdr_inv h5
    obtain ⟨h7, h8⟩ := zif_inv h6
    obtain ⟨h9, h10⟩ := zif_inv h8
    obtain ⟨h11, h12⟩ := zif_inv h10
    obtain ⟨h13, h14⟩ := zif_inv h12
    rw [Bool.and_eq_true] at h7
    refine zs_copy (i2 := 0) (t := .int) hF0 hR hk (show k ls r (zcI M a b sp.toNatClampNeg dp.toNatClampNeg n.toNatClampNeg) = some (o, M9) from h14) hd hlk rfl (eq_of_beq h7.1) (eq_of_beq h7.2) h9 h11 h13 (fun H g2 j hj => ⟨rfl, fun _ _ _ _ _ _ _ _ => trivial⟩) rfl rfl rfl rfl (fun _ _ _ => rfl) (fun x j hx => zcpf_o _ _ _ _ _ _ _ _ hx) (fun _ _ _ => rfl) (fun j => ?_)
    show Value.int (zcpf (mI M) a b sp.toNatClampNeg dp.toNatClampNeg n.toNatClampNeg b j) = _
    rw [zcpf_b]
    by_cases hj : dp.toNatClampNeg ≤ j ∧ j < dp.toNatClampNeg + n.toNatClampNeg <;> simp [hj, zval]
  · obtain ⟨n, dp, r1, rfl, h1⟩ := zp2_inv h
    obtain ⟨o2, r2, rfl, h2⟩ := zpr_inv h1
    obtain ⟨sp, r3, rfl, h3⟩ := zp1_inv h2
    obtain ⟨o1, r, rfl, h4⟩ := zpr_inv h3
    obtain ⟨a, rfl, h5⟩ := zdr_inv h4
    obtain ⟨b, rfl, h6⟩ := zdr_inv h5
    obtain ⟨h7, h8⟩ := zif_inv h6
    obtain ⟨h9, h10⟩ := zif_inv h8
    obtain ⟨h11, h12⟩ := zif_inv h10
    obtain ⟨h13, h14⟩ := zif_inv h12
    rw [Bool.and_eq_true] at h7
    obtain ⟨h15, h16⟩ := zif_inv (show zif (zck M a sp.toNatClampNeg n.toNatClampNeg) (k ls r (zcJ M a b sp.toNatClampNeg dp.toNatClampNeg n.toNatClampNeg)) = some (o, M9) from h14)
    refine zs_copy (i2 := 9) (t := .object "SledHouse$Law") hF0 hR hk h16 hd hlk rfl (eq_of_beq h7.1) (eq_of_beq h7.2) h9 h11 h13 (fun H g2 j hj => ?_) rfl rfl rfl rfl (fun x j hx => zcpf_o _ _ _ _ _ _ _ _ hx) (fun _ _ _ => rfl) (fun _ _ _ => rfl) (fun j => ?_)
    · rcases zck_at h15 hj with h17 | ⟨b2, h17, h18⟩
      · have e9 : zval M a (sp.toNatClampNeg + j) (.object "SledHouse$Law") = .null := by
          show va_rf _ = _
          rw [h17]; rfl
        rw [e9]
        exact ⟨rfl, fun _ _ _ _ _ _ _ _ => trivial⟩
      · have e9 : zval M a (sp.toNatClampNeg + j) (.object "SledHouse$Law") = .ref b2 := by
          show va_rf _ = _
          rw [h17]; rfl
        rw [e9]
        refine ⟨rfl, fun vm' dComp kd T hT hal hk1 hk2 => ?_⟩
        obtain ⟨ci, q, f1, f2, f3⟩ := zlaw_in h18
        obtain ⟨cell, c1, c2, c3, c4, -, -⟩ := g2.2.2.1 b2 ci q f2 f1
        obtain ⟨kA, comp, k1, k2, k3, -⟩ := (hG.1.2 9 _ (ztl_at (f := D.2) (i := 9) rfl)).2
        cases hk1.symm.trans k1
        have ecp : dComp = comp := by
          rw [hk2] at k2
          cases k2
          rfl
        subst ecp
        obtain ⟨c0, t1, j1, j2, j3⟩ := Cond.castable_spec (va_Nw.use (A := args) rfl (hG.2.1 _ f3))
        have hcls := (hG.1.1 ci q f2).2
        cases j1.symm.trans hcls.1
        cases j2.symm.trans k3
        obtain ⟨kC, hkC, -⟩ := hcls.2
        obtain ⟨kT, hkT, -⟩ := Vm.findClass_spec k3
        obtain ⟨kC', hkC', -⟩ := hal.2.2 _ _ hkC
        obtain ⟨kT', hkT', -⟩ := hal.2.2 _ _ hkT
        refine ⟨cell, (by rw [← hT] at c1; exact c1), (fun k h => (by rw [h] at c3; cases c3)), ⟨kC', (by rw [c2]; exact hkC')⟩, ⟨kT', hkT'⟩, ?_⟩
        rw [c2]
        show vm'.assignable _ _ = true
        rw [← j3]
        exact hal.assignable _ _
    · show va_rf (zcpf (mJ M) a b sp.toNatClampNeg dp.toNatClampNeg n.toNatClampNeg b j) = _
      rw [zcpf_b]
      by_cases hj : dp.toNatClampNeg ≤ j ∧ j < dp.toNatClampNeg + n.toNatClampNeg <;> simp [hj, zval]
  · obtain ⟨as, r, rfl, hn, hc1, h4⟩ := ztk_inv (n := n) (acc := []) h
    obtain ⟨h8, o1, M1, h5, h6⟩ := zcall_inv h4
    obtain ⟨m1, m2, d2, hd2, h7⟩ := hcf _ _ _ _ _ h5
    obtain ⟨w1, w2, w30⟩ := h7 _ e5
    have w3 := w30 (fun v hv => hc1 v (by simpa using hv)) (by rw [List.append_nil, List.length_reverse, hn]; exact e7)
    refine zs_aft (a1 := ((as.reverse ++ []).map zvv).toArray) hth hk h6 m1 m2 (fun arr H locs g1 g2 g3 g4 g5 m3 m4 => ?_)
    refine z_runS (As := (as.reverse ++ []).map zvv) ⟨hx, hb, hml, hown, hts⟩ hG.2.1 w3 w1 e6 rfl rfl (z_rm hR hd2 w2) ⟨zPc_blind, zPc_in hG g2 g3⟩ rfl (by simpa using hn) g1.1.1 ?_ ?_ hd ⟨z_cel g4 m1 m3 hR.2.2.1, z_cel g5 m2 m4 hR.2.2.2⟩
    · show (as ++ r).map zvv = _
      rw [List.append_nil, List.map_append, List.map_reverse, List.reverse_reverse]
    · show 2 * 0 + _ ≤ 8
      rw [zsm_cat]
      omega
theorem zs_athrow_ok (hF : zFx p s m args meth c D E own cc nL ini) (hth : zTh p l e R s m args below meth c Q D E nL lg M0 M9 o bk hh) (h : zst E cf bk hh k pc .athrow v x ls st M = some (o, M9)) (hd : decode cc pc = .ok (.athrow, len)) (hl : zlk zml own nL lg rt ini pc len nxt .athrow v x) : zGo p l e R s m args below meth c Q D E nL lg M0 M9 pc ls st M := by
  obtain ⟨hx, hb, hml, hown, hts, hG, hini⟩ := hF
  have hl : len = 1 := hl
  subst hl
  obtain ⟨ob, r, rfl, h1⟩ := zpr_inv h
  obtain ⟨q, rfl, h2⟩ := zdr_inv h1
  obtain ⟨h3, h4⟩ := zif_inv h2
  rw [Bool.and_eq_true] at h3
  obtain ⟨hm, hw⟩ := hth _ _ _ _ h4
  have hKn : zKnd E M q := by
    refine ⟨Nat.le_of_ble_eq_true h3.1, ?_⟩
    have h5 := zkb_inv h3.2
    simp only [List.mem_cons, List.not_mem_nil, or_false] at h5
    rcases h5 with h5 | h5
    · exact ⟨2, _, rfl, h5⟩
    · exact ⟨8, _, rfl, h5⟩
  exact ⟨hm, fun arr H locs g1 g2 g3 g4 g5 => vx_athrow hx hb hd ((hw hKn).2 arr H locs (r.map zvv) g1 g2 g3 g4 g5)⟩
theorem zs_ireturn_ok (hF : zFx p s m args meth c D E own cc nL ini) (hE : zEnd p l e R s m args below meth c Q D E cc rt M0 M9 o) (h : zst E cf bk hh k pc .ireturn v x ls st M = some (o, M9)) (hd : decode cc pc = .ok (.ireturn, len)) (hl : zlk zml own nL lg rt ini pc len nxt .ireturn v x) : zGo p l e R s m args below meth c Q D E nL lg M0 M9 pc ls st M := by
  obtain ⟨rfl, hl⟩ := hl
  have main : ∀ (t : FieldType) (a : Int32), st = [zi a] → rt = some t → narrow t (.int a) = .int a → Sum.inl (some (zi a)) = o → M = M9 → zGo p l e R s m args below meth c Q D E nL lg M0 M9 pc ls st M := by
    intro t a h1 h2 h3 h4 h5
    subst h1 h5
    exact ⟨⟨Nat.le_refl _, Nat.le_refl _⟩, fun arr H locs g1 g2 g3 g4 g5 => (hE pc arr H locs g2 g3 g4 g5).1 a t h4.symm hd h2 h3⟩
  rcases hl with ⟨rfl, h1⟩ | ⟨rfl, h1⟩ | ⟨rfl, h1⟩ | ⟨rfl, h1⟩
  · match st, h with
    | [Sum.inl a], h =>
      have h := Option.some.inj (show some (Sum.inl (some (zi a)), M) = some (o, M9) from h)
      exact main .int a rfl h1 rfl (congrArg Prod.fst h) (congrArg Prod.snd h)
    | [], h => cases h
    | [Sum.inr _], h => cases h
    | Sum.inl _ :: _ :: _, h => cases h
    | Sum.inr _ :: _ :: _, h => cases h
  · match st, h with
    | [Sum.inl a], h =>
      obtain ⟨h2, h3⟩ := zif_inv (show zif (a == 0 || a == 1) (some (Sum.inl (some (zi a)), M)) = some (o, M9) from h)
      have h := Option.some.inj h3
      have hw : a = 0 ∨ a = 1 := by simpa using h2
      refine main .boolean a rfl h1 ?_ (congrArg Prod.fst h) (congrArg Prod.snd h)
      rcases hw with rfl | rfl <;> decide
    | [], h => cases h
    | [Sum.inr _], h => cases h
    | Sum.inl _ :: _ :: _, h => cases h
    | Sum.inr _ :: _ :: _, h => cases h
  · match st, h with
    | [Sum.inl a], h =>
      obtain ⟨h2, h3⟩ := zif_inv (show zif ((a.toUInt32 % 65536).toInt32 == a) (some (Sum.inl (some (zi a)), M)) = some (o, M9) from h)
      have h := Option.some.inj h3
      have hw : (a.toUInt32 % 65536).toInt32 = a := eq_of_beq h2
      refine main .char a rfl h1 ?_ (congrArg Prod.fst h) (congrArg Prod.snd h)
      show Value.int _ = _
      rw [lg_i2c_nf] at hw
      exact congrArg Value.int hw
    | [], h => cases h
    | [Sum.inr _], h => cases h
    | Sum.inl _ :: _ :: _, h => cases h
    | Sum.inr _ :: _ :: _, h => cases h
  · match st, h with
    | [Sum.inl a], h =>
      obtain ⟨h2, h3⟩ := zif_inv (show zif (a.toInt8.toInt32 == a) (some (Sum.inl (some (zi a)), M)) = some (o, M9) from h)
      have h := Option.some.inj h3
      have hw : a.toInt8.toInt32 = a := eq_of_beq h2
      refine main .byte a rfl h1 ?_ (congrArg Prod.fst h) (congrArg Prod.snd h)
      show Value.int a.toInt8.toInt32 = _
      rw [hw]
    | [], h => cases h
    | [Sum.inr _], h => cases h
    | Sum.inl _ :: _ :: _, h => cases h
    | Sum.inr _ :: _ :: _, h => cases h
theorem zs_areturn_ok (hF : zFx p s m args meth c D E own cc nL ini) (hE : zEnd p l e R s m args below meth c Q D E cc rt M0 M9 o) (h : zst E cf bk hh k pc .areturn v x ls st M = some (o, M9)) (hd : decode cc pc = .ok (.areturn, len)) (hl : zlk zml own nL lg rt ini pc len nxt .areturn v x) : zGo p l e R s m args below meth c Q D E nL lg M0 M9 pc ls st M := by
  obtain ⟨rfl, t, h1, h2⟩ := hl
  match st, h with
  | [Sum.inr (Sum.inl a)], h =>
    have h := Option.some.inj (show some (Sum.inl (some (zr a)), M) = some (o, M9) from h)
    have h5 : M = M9 := congrArg Prod.snd h
    subst h5
    exact ⟨⟨Nat.le_refl _, Nat.le_refl _⟩, fun arr H locs g1 g2 g3 g4 g5 => (hE pc arr H locs g2 g3 g4 g5).2.1 a t (congrArg Prod.fst h).symm hd h1 h2⟩
  | [], h => cases h
  | [Sum.inl _], h => cases h
  | [Sum.inr (Sum.inr _)], h => cases h
  | Sum.inl _ :: _ :: _, h => cases h
  | Sum.inr (Sum.inl _) :: _ :: _, h => cases h
  | Sum.inr (Sum.inr _) :: _ :: _, h => cases h
theorem zs_lreturn_ok (hF : zFx p s m args meth c D E own cc nL ini) (hE : zEnd p l e R s m args below meth c Q D E cc rt M0 M9 o) (h : zst E cf bk hh k pc .lreturn v x ls st M = some (o, M9)) (hd : decode cc pc = .ok (.lreturn, len)) (hl : zlk zml own nL lg rt ini pc len nxt .lreturn v x) : zGo p l e R s m args below meth c Q D E nL lg M0 M9 pc ls st M := by
  obtain ⟨rfl, h1⟩ := hl
  match st, h with
  | [Sum.inr (Sum.inr a)], h =>
    have h := Option.some.inj (show some (Sum.inl (some (zl a)), M) = some (o, M9) from h)
    have h5 : M = M9 := congrArg Prod.snd h
    subst h5
    exact ⟨⟨Nat.le_refl _, Nat.le_refl _⟩, fun arr H locs g1 g2 g3 g4 g5 => (hE pc arr H locs g2 g3 g4 g5).2.2.1 a (congrArg Prod.fst h).symm hd h1⟩
  | [], h => cases h
  | [Sum.inl _], h => cases h
  | [Sum.inr (Sum.inl _)], h => cases h
  | Sum.inl _ :: _ :: _, h => cases h
  | Sum.inr (Sum.inl _) :: _ :: _, h => cases h
  | Sum.inr (Sum.inr _) :: _ :: _, h => cases h
theorem zs_return__ok (hF : zFx p s m args meth c D E own cc nL ini) (hE : zEnd p l e R s m args below meth c Q D E cc rt M0 M9 o) (h : zst E cf bk hh k pc .return_ v x ls st M = some (o, M9)) (hd : decode cc pc = .ok (.return_, len)) (hl : zlk zml own nL lg rt ini pc len nxt .return_ v x) : zGo p l e R s m args below meth c Q D E nL lg M0 M9 pc ls st M := by
  obtain ⟨rfl, h1⟩ := hl
  match st, h with
  | [], h =>
    have h := Option.some.inj (show some (Sum.inl none, M) = some (o, M9) from h)
    have h5 : M = M9 := congrArg Prod.snd h
    subst h5
    exact ⟨⟨Nat.le_refl _, Nat.le_refl _⟩, fun arr H locs g1 g2 g3 g4 g5 => (hE pc arr H locs g2 g3 g4 g5).2.2.2 (congrArg Prod.fst h).symm hd h1⟩
  | _ :: _, h => cases h
end ZMAIN4
