/-! ===== rows of new cells, copies, constants, casts ===== -/
theorem znf : ∀ (ci : Nat) (q : vw_C), zcl[ci]? = some q → ∀ k, k < q.2.2 → zty ci k ≠ .float ∧ zty ci k ≠ .double := by
  intro c q h
  match c, h with
  | 0, h => cases h; show ∀ k, k < 16 → tyX0 k ≠ .float ∧ tyX0 k ≠ .double; decide +kernel
  | 1, h => cases h; show ∀ k, k < 9 → tyX1 k ≠ .float ∧ tyX1 k ≠ .double; decide +kernel
  | 2, h => cases h; show ∀ k, k < 9 → tyX2 k ≠ .float ∧ tyX2 k ≠ .double; decide +kernel
  | 3, h => cases h; show ∀ k, k < 8 → tyX3 k ≠ .float ∧ tyX3 k ≠ .double; decide +kernel
  | 4, h => cases h; show ∀ k, k < 20 → tyX4 k ≠ .float ∧ tyX4 k ≠ .double; decide +kernel
  | 5, h => cases h; show ∀ k, k < 3 → tyX5 k ≠ .float ∧ tyX5 k ≠ .double; decide +kernel
  | 6, h => cases h; show ∀ k, k < 40 → tyX6 k ≠ .float ∧ tyX6 k ≠ .double; decide +kernel
  | 7, h => cases h; show ∀ k, k < 24 → tyX7 k ≠ .float ∧ tyX7 k ≠ .double; decide +kernel
  | 8, h => cases h; show ∀ k, k < 8 → tyX8 k ≠ .float ∧ tyX8 k ≠ .double; decide +kernel
  | 9, h => cases h; show ∀ k, k < 2 → tyX9 k ≠ .float ∧ tyX9 k ≠ .double; decide +kernel
  | 10, h => cases h; show ∀ k, k < 3 → tyX10 k ≠ .float ∧ tyX10 k ≠ .double; decide +kernel
  | 11, h => cases h; show ∀ k, k < 3 → tyX11 k ≠ .float ∧ tyX11 k ≠ .double; decide +kernel
  | 12, h => cases h; show ∀ k, k < 4 → tyX13 k ≠ .float ∧ tyX13 k ≠ .double; decide +kernel
  | 13, h => cases h; show ∀ k, k < 4 → tyX14 k ≠ .float ∧ tyX14 k ≠ .double; decide +kernel
  | 14, h => cases h; show ∀ k, k < 2 → tyX15 k ≠ .float ∧ tyX15 k ≠ .double; decide +kernel
  | 15, h => cases h; show ∀ k, k < 3 → tyX16 k ≠ .float ∧ tyX16 k ≠ .double; decide +kernel
  | 16, h => cases h; show ∀ k, k < 4 → tyJ3 k ≠ .float ∧ tyJ3 k ≠ .double; decide +kernel
  | c + 17, h => simp [zcl] at h
theorem zval_new (M : zM) (κ n w k : Nat) (t : FieldType) (h : t ≠ .float ∧ t ≠ .double) : zval (zal M κ n w) (mS M) k t = defaultValue t := by
  have hJ : mJ (zal M κ n w) (mS M) k = none := if_pos rfl
  have hI : mI (zal M κ n w) (mS M) k = 0 := if_pos rfl
  have hG : mG (zal M κ n w) (mS M) k = 0 := if_pos rfl
  cases t <;> simp_all [zval, defaultValue, va_rf]
theorem va_S.fresh {A : Nat → Prop} {H0 H H' : Heap} {locs : List Loc} (h : va_S A H0 H locs) (hz : H'.size = H.size + 1) (oq : ∀ q : Nat, q < H.size → H'[q]? = H[q]?) : va_S A H0 H' locs :=
  ⟨Nat.le_trans h.1 (by omega), fun x h1 h2 => (oq x (Nat.lt_of_lt_of_le h1 h.1)).trans (h.2.1 x h1 h2), h.2.2⟩
theorem zsz_t {j : Int32} (h : zsz j = true) : ¬ j < 0 ∧ j.toNatClampNeg < 65536 := by
  simp only [zsz, Bool.and_eq_true, decide_eq_true_eq] at h
  exact ⟨fun h1 => absurd h.1 (Int32.not_le.mpr h1), h.2⟩
section ZROWS2
variable {p : Program} {l : Launch} {e : Env} {R : Room} {s : State} {m : MethodId} {args : Array Value} {below : List Frame} {meth : Method} {c : Code} {H : Heap} {locs : List Loc} {cells slots : Nat} {Q : State → Prop}
variable {cc : ByteArray} {pc : Nat} {ls : Array Slot} {rest : List Value} {D : zD} {E : zE} {M M' : zM} {H0 : Heap} {own : String} {idx a ci k : Nat} {q : vw_C}
theorem z_new (hx : p.tables.exec = Jvm.exec) (hb : c.code = cc) (hK : va_K D.1 zcl (ztl D.2) s) (hR : zRep D E s M H) (hS0 : va_S (fun x => E.1 ≤ x) H0 H locs) (hc : zcl[ci]? = some q) (hts : ∀ w ∈ lw_all, w.before args s = true) (hown : s.vm.findClass own = some m.cls) (hcl : (Cond.classLink own idx q.1).before args s = true) (hinst : (Cond.instantiable q.1 q.2.2).before args s = true) (hini : (Cond.initialized q.1).before args s = true)
    (hcells : cells + 1 ≤ R.cells) (hslots : slots + q.2.2 ≤ R.slots) (hdg : decode cc pc = .ok (.new idx, 3))
    (kk : ∀ (H' : Heap), zRep D E s (zal M (ci + 1) 0 q.2.2) H' → va_S (fun x => E.1 ≤ x) H0 H' locs → W p l e R s m args below meth c H' locs (cells + 1) (slots + q.2.2) Q (F0 m (pc + 3) ls (.ref (mS M) :: rest))) : W p l e R s m args below meth c H locs cells slots Q (F0 m pc ls rest) := by
  obtain ⟨hin, hty, hnm⟩ := zcl_in ci q hc
  have hKn := hK.1 ci _ hc
  refine W.newcK hx hb hown hcl hinst hini rfl hdg hcells hslots hKn.2.1 rfl fun H' kC hkC e1 z1 o1 => ?_
  have hsz : H.size = mS M := hR.1
  rw [hsz] at e1 ⊢
  refine kk H' (hR.grow (by have := zcl_lt hc; omega) z1 o1 (fun c2 q2 hc2 hk2 => ?_) (fun i t hi hk2 => ?_)) (hS0.fresh z1 o1)
  · have e4 : c2 = ci := by omega
    subst e4
    cases hc2.symm.trans hc
    obtain ⟨cell, g1, g2, g3, g4⟩ := u_born (zty c2) hts hin hKn hkC e1 hty
    exact ⟨cell, g1, g2, by rw [g3]; rfl, by rw [g3]; exact fun h => (by cases h), fun _ => g3, fun k hk => by rw [g4 k hk, zval_new _ _ _ _ _ _ (znf c2 q hc k hk)]⟩
  · have := zcl_lt hc
    have := zat_lt hi
    omega
/-- a new array, its cell as the machine makes it -/
theorem zRep.newArr {H' : Heap} {i n : Nat} {t : FieldType} (hK : va_K D.1 zcl (ztl D.2) s) (hR : zRep D E s M H) (hi : zat[i]? = some t) (hn : n < 65536) (ht : t ≠ .float ∧ t ≠ .double) (e1 : H'[H.size]? = some (arrV (D.2 i) n (fun _ => defaultValue t))) (z1 : H'.size = H.size + 1) (o1 : ∀ q : Nat, q < H.size → H'[q]? = H[q]?) : zRep D E s (zal M (101 + i) n n) H' := by
  refine hR.grow (by have := zat_lt hi; omega) z1 o1 (fun c2 q2 hc2 hk2 => ?_) (fun i2 t2 hi2 hk2 => ?_)
  · have := zcl_lt hc2
    omega
  · have e4 : i2 = i := by omega
    subst e4
    cases hi2.symm.trans hi
    have hN : mN (zal M (101 + i2) n n) (mS M) = n := if_pos rfl
    have e5 : arrV (D.2 i2) n (fun _ => defaultValue t) = arrV (D.2 i2) (mN (zal M (101 + i2) n n) (mS M)) (fun j => zval (zal M (101 + i2) n n) (mS M) j t) := by
      rw [hN]
      congr 1
      funext j
      rw [zval_new _ _ _ _ _ _ ht]
    rw [hR.1] at e1
    refine ⟨_, e1, (hK.2 i2 _ (ztl_at hi)).1 _ _, fun h => by (cases h), by rw [arrV_size, hN], by rw [hN]; omega, fun j hj => ?_, fun _ => e5⟩
    rw [e5, arrV_read _ _ hj]
theorem z_newarr (hx : p.tables.exec = Jvm.exec) (hb : c.code = cc) (hK : va_K D.1 zcl (ztl D.2) s) (hR : zRep D E s M H) (hS0 : va_S (fun x => E.1 ≤ x) H0 H locs) {atype : ArrayType} {i : Nat} {t : FieldType} (ht : newarray.typeOf atype = t) (hi : zat[i]? = some t) (hi4 : i < 4) (harr : (Cond.arrayClass t).before args s = true) {n : Int32} (hn : zsz n = true)
    (hcells : cells + 1 ≤ R.cells) (hslots : slots + n.toNatClampNeg ≤ R.slots) (hdg : decode cc pc = .ok (.newarray atype, 2))
    (kk : ∀ (H' : Heap), zRep D E s (zal M (101 + i) n.toNatClampNeg n.toNatClampNeg) H' → va_S (fun x => E.1 ≤ x) H0 H' locs → W p l e R s m args below meth c H' locs (cells + 1) (slots + n.toNatClampNeg) Q (F0 m (pc + 2) ls (.ref (mS M) :: rest))) : W p l e R s m args below meth c H locs cells slots Q (F0 m pc ls (.int n :: rest)) := by
  subst ht
  have hcb : componentBytes (newarray.typeOf atype) ≤ 8 := by cases atype <;> decide
  have h8 : n.toNatClampNeg * componentBytes (newarray.typeOf atype) ≤ 65536 * 8 := Nat.mul_le_mul (Nat.le_of_lt (zsz_t hn).2) hcb
  refine va_newaK hx hb harr rfl hdg rfl (zsz_t hn).1 rfl (Nat.le_trans h8 (by decide)) hcells hslots rfl fun H' cA e1 z1 o1 hAr hNm => ?_
  have hcA : cA = D.2 i := by
    have h9 := (hK.2 i _ (ztl_at hi)).2
    have h10 : s.vm.findClass ("[" ++ (newarray.typeOf atype).toString) = some (D.2 i) := by
      cases atype <;> exact h9
    exact Option.some.inj (hNm.symm.trans h10)
  subst hcA
  have hz := hR.1
  have hfd : newarray.typeOf atype ≠ .float ∧ newarray.typeOf atype ≠ .double := by
    match i, hi4, hi with
    | 0, _, hi => have := Option.some.inj hi; rw [← this]; decide
    | 1, _, hi => have := Option.some.inj hi; rw [← this]; decide
    | 2, _, hi => have := Option.some.inj hi; rw [← this]; decide
    | 3, _, hi => have := Option.some.inj hi; rw [← this]; decide
  have h11 := kk H' (hR.newArr hK hi (zsz_t hn).2 hfd e1 z1 o1) (hS0.fresh z1 o1)
  rw [← hz] at h11
  exact h11
theorem z_anew (hx : p.tables.exec = Jvm.exec) (hb : c.code = cc) (hK : va_K D.1 zcl (ztl D.2) s) (hR : zRep D E s M H) (hS0 : va_S (fun x => E.1 ≤ x) H0 H locs) {C : String} {i : Nat} (hi : zat[i]? = some (.object C)) (hown : s.vm.findClass own = some m.cls) (hcl : (Cond.classLink own idx C).before args s = true) (hAO : va_AO C s) {n : Int32} (hn : zsz n = true)
    (hcells : cells + 1 ≤ R.cells) (hslots : slots + n.toNatClampNeg ≤ R.slots) (hdg : decode cc pc = .ok (.anewarray idx, 3))
    (kk : ∀ (H' : Heap), zRep D E s (zal M (101 + i) n.toNatClampNeg n.toNatClampNeg) H' → va_S (fun x => E.1 ≤ x) H0 H' locs → W p l e R s m args below meth c H' locs (cells + 1) (slots + n.toNatClampNeg) Q (F0 m (pc + 3) ls (.ref (mS M) :: rest))) : W p l e R s m args below meth c H locs cells slots Q (F0 m pc ls (.int n :: rest)) := by
  have h8 : n.toNatClampNeg * 4 ≤ 536870912 := by have := (zsz_t hn).2; omega
  refine W.anew hx hb hown hcl (va_AO.use hAO) rfl hdg rfl (zsz_t hn).1 h8 hcells hslots fun cA kA comp f1 f2 f3 f4 => ?_
  obtain ⟨kA', comp', k1, k2, k3, k4⟩ := (hK.2 i _ (ztl_at hi)).2
  have hcA : cA = D.2 i := Option.some.inj (f1.symm.trans k4)
  subst hcA
  generalize hH1 : H.push ({ cls := D.2 i, slots := Array.replicate n.toNatClampNeg .null, vm := .none } : Cell) = H'
  have z1 : H'.size = H.size + 1 := by rw [← hH1, Array.size_push]
  have e1 : H'[H.size]? = some (arrV (D.2 i) n.toNatClampNeg (fun _ => .null)) := by rw [← hH1, Array.getElem?_push_size, ← arrV_new]
  have o1 : ∀ x : Nat, x < H.size → H'[x]? = H[x]? := fun x hx => by rw [← hH1, Array.getElem?_push, if_neg (Nat.ne_of_lt hx)]
  have h11 := kk H' (hR.newArr hK hi (zsz_t hn).2 ⟨fun h => (by cases h), fun h => (by cases h)⟩ e1 z1 o1) (hS0.fresh z1 o1)
  rw [← hR.1] at h11
  exact h11
theorem z_clamp {z : Int32} (hz : 0 ≤ z) : ¬ z < 0 ∧ z.toInt = (z.toNatClampNeg : Int) := by
  refine ⟨Int32.not_lt.mpr hz, ?_⟩
  have hz0 : (0 : Int) ≤ z.toInt := by simpa using Int32.le_iff_toInt_le.mp hz
  show z.toInt = ((z.toInt.toNat : Nat) : Int)
  omega
/-- System.arraycopy between own arrays of one kind -/
theorem z_copy (hx : p.tables.exec = Jvm.exec) (hb : c.code = cc) (hml : c.maxLocals = ls.size) (hown : s.vm.findClass own = some m.cls) (hlink : (Cond.methodLink own idx arraycopyName).before args s = true) (hnat : (Cond.native arraycopyName).before args s = true) (hstat : (Cond.static arraycopyName).before args s = true) (hini : (Cond.initialized "java/lang/System").before args s = true)
    (hK : va_K D.1 zcl (ztl D.2) s) (hR : zRep D E s M H) (hS0 : va_S (fun x => E.1 ≤ x) H0 H locs) {i b : Nat} {t : FieldType} (hi : zat[i]? = some t) (hka : mK M a = 101 + i) (hkb : mK M b = 101 + i) (hBa : E.1 ≤ a) (hBb : E.1 ≤ b)
    {sp dp n : Int32} (h1 : 0 ≤ sp) (h2 : 0 ≤ dp) (h3 : 0 ≤ n) (h4 : sp.toNatClampNeg + n.toNatClampNeg ≤ mN M a) (h5 : dp.toNatClampNeg + n.toNatClampNeg ≤ mN M b)
    (hel : ∀ j : Nat, j < n.toNatClampNeg → fits t (zval M a (sp.toNatClampNeg + j) t) = true ∧ ∀ (vm' : Vm) (dComp : ClassId) (kd : Class) (T : State), T.heap = H → s.vm.Alike vm' → s.vm.classes[D.2 i]? = some kd → kd.kind = .array dComp t → (T.setVm vm').takes dComp (zval M a (sp.toNatClampNeg + j) t))
    (hframes : 1 ≤ R.frames) (hlocals : (rest.map fun v => v.category).sum + (nativeFrameWords "java/lang/System" "arraycopy" 5 + 11) ≤ R.locals) (hdg : decode cc pc = .ok (.invokestatic idx, 3))
    (hS : mS M' = mS M) (hKK : mK M' = mK M) (hNN : mN M' = mN M) (hJ : ∀ x j, x ≠ b → mJ M' x j = mJ M x j) (hI : ∀ x j, x ≠ b → mI M' x j = mI M x j) (hG : ∀ x j, x ≠ b → mG M' x j = mG M x j)
    (hv : ∀ j, zval M' b j t = if dp.toNatClampNeg ≤ j ∧ j < dp.toNatClampNeg + n.toNatClampNeg then zval M a (sp.toNatClampNeg + (j - dp.toNatClampNeg)) t else zval M b j t)
    (kk : ∀ (H' : Heap) (locs' : List Loc), zRep D E s M' H' → va_S (fun x => E.1 ≤ x) H0 H' locs' → W p l e R s m args below meth c H' locs' cells slots Q (F0 m (pc + 3) ls rest)) : W p l e R s m args below meth c H locs cells slots Q (F0 m pc ls (.int n :: .int dp :: .ref b :: .int sp :: .ref a :: rest)) := by
  intro T hT X
  obtain ⟨cs, s1, s2, s3, s4, s5, s6, s7⟩ := hR.2.2.2 a i t hi hka
  obtain ⟨cd, d1, d2, d3, d4, d5, d6, d7⟩ := hR.2.2.2 b i t hi hkb
  have hcs := s7 hBa
  have hcd := d7 hBb
  subst hcs
  subst hcd
  obtain ⟨-, k0, hk0, cm0, hkk0⟩ := s2
  obtain ⟨-, k1, hk1, cm1, hkk1⟩ := d2
  obtain ⟨n1, n2⟩ := z_clamp h1
  obtain ⟨n3, n4⟩ := z_clamp h2
  obtain ⟨n5, n6⟩ := z_clamp h3
  obtain ⟨vm', X', step⟩ := X.arraycopy hx hown hlink hnat hstat hini (src := a) (dst := b) (srcPos := sp) (destPos := dp) (n := n) (by rw [hT]; exact s1) (by rw [hT]; exact d1)
    (fun _ h => by cases h) (fun _ h => by cases h) (fun h => by cases h) (fun h => by cases h) hk0 hk1 hkk0 hkk1 (by simp) n1 n3 n5
    (by rw [n2, n6, arrV_size]; omega) (by rw [n4, n6, arrV_size]; omega)
    (fun vm₁ hal j hj => by
      have e9 : (arrV (D.2 i) (mN M a) (fun j => zval M a j t)).slots.getD (sp.toNatClampNeg + j) .null = zval M a (sp.toNatClampNeg + j) t := by
        rw [Array.getD_eq_getD_getElem?, arrV_read _ _ (by omega)]
        rfl
      rw [e9]
      exact ⟨(hel j hj).1, (hel j hj).2 vm₁ cm1 k1 T hT hal hk1 hkk1⟩)
    (g := F0 m pc ls (.int n :: .int dp :: .ref b :: .int sp :: .ref a :: rest)) rfl (by rw [hml]) (rest := rest) rfl (by rw [hb]; exact hdg) hframes (by show 2 * 0 + _ + _ ≤ _; omega)
  have e1 : copied (arrV (D.2 i) (mN M a) (fun j => zval M a j t)) (arrV (D.2 i) (mN M b) (fun j => zval M b j t)) sp dp n = arrV (D.2 i) (mN M b) (fun j => zval M' b j t) := by
    refine (va_copied (fun z => z) (D.2 i) (D.2 i) (fun j => zval M a j t) (fun j => zval M b j t) h4).trans ?_
    congr 1
    funext j
    rw [hv j]
    rfl
  rw [e1] at X' step
  have hl : b < H.size := (Array.getElem?_eq_some_iff.mp d1).1
  generalize hce : arrV (D.2 i) (mN M b) (fun j => zval M' b j t) = ce at X' step
  have hheap : ((T.setVm vm').setCell b ce).heap = H.setIfInBounds b ce := by rw [← hT]; rfl
  have oq : ∀ x : Nat, x ≠ b → (H.setIfInBounds b ce)[x]? = H[x]? := fun x hx => by simp [Array.getElem?_setIfInBounds, Ne.symm hx]
  have ob : (H.setIfInBounds b ce)[b]? = some ce := by simp [Array.getElem?_setIfInBounds, hl]
  obtain ⟨t9, a1, b1⟩ := kk _ _ (hR.put (M' := M') (a := b) (by simp) oq hS hKK hNN hJ hI hG (fun c2 q2 hc2 hk2 => by have := zcl_lt hc2; omega) (fun i2 t2 hi2 hk2 => by
      have e4 : i2 = i := by omega
      subst e4
      cases hi2.symm.trans hi
      refine ⟨ce, ob, ?_, ?_, ?_, by rw [hNN]; exact d5, fun j hj => ?_, fun _ => by rw [hNN]; exact hce.symm⟩
      · rw [← hce]; exact (hK.2 i2 _ (ztl_at hi)).1 _ _
      · rw [← hce]; exact fun h => by cases h
      · rw [← hce, arrV_size, hNN]
      · rw [hNN] at hj; rw [← hce, arrV_read _ _ hj])) ⟨by simp; exact hS0.1, fun x g1 g2 => by
      rw [oq x (fun e => g2 (by rw [e]; exact hBb))]
      exact hS0.2.1 x g1 g2, fun x hxm => by
      rcases List.mem_append.mp hxm with h | h
      · exact hS0.2.2 x h
      · obtain ⟨z, -, hz⟩ := List.mem_map.mp h
        rw [← hz]
        exact hBb⟩ _ hheap X'
  exact ⟨t9, step t9 a1, b1⟩
/-- the receiver of a call -/
theorem z_recv (hK : va_K D.1 zcl (ztl D.2) s) (hR : zRep D E s M H) (hc : zcl[ci]? = some q) (hk : mK M a = ci + 1) : ∃ cell : Cell, H[a]? = some cell ∧ cell.vm.isStatics = false ∧ s.vm.findClass q.1 = some cell.cls := by
  obtain ⟨cell, h1, h2, h3, -⟩ := hR.2.2.1 a ci q hc hk
  exact ⟨cell, h1, h3, by rw [h2]; exact (hK.1 ci q hc).2.1⟩
theorem z_recvA (hK : va_K D.1 zcl (ztl D.2) s) (hR : zRep D E s M H) {i : Nat} {t : FieldType} (hi : zat[i]? = some t) (hk : mK M a = 101 + i) : ∃ cell : Cell, H[a]? = some cell ∧ cell.vm.isStatics = false ∧ cell.cls < cell.cls + 1 := by
  obtain ⟨cell, h1, h2, -⟩ := hR.2.2.2 a i t hi hk
  refine ⟨cell, h1, ?_, Nat.lt_succ_self _⟩
  cases hv : cell.vm <;> first | rfl | exact absurd hv (h2.1 _)
end ZROWS2
