/-! ===== a row an instruction, over a memory ===== -/
section ZROWS
variable {p : Program} {l : Launch} {e : Env} {R : Room} {s : State} {m : MethodId} {args : Array Value} {below : List Frame} {meth : Method} {c : Code} {H : Heap} {locs : List Loc} {cells slots : Nat} {Q : State → Prop}
variable {cc : ByteArray} {pc : Nat} {ls : Array Slot} {rest : List Value} {D : zD} {E : zE} {M M' : zM} {H0 : Heap} {own : String} {idx a ci k : Nat} {q : vw_C}
theorem z_get (hx : p.tables.exec = Jvm.exec) (hb : c.code = cc) (hK : va_K D.1 zcl (ztl D.2) s) (hR : zRep D E s M H) (hc : zcl[ci]? = some q) (hk : mK M a = ci + 1) (hkN : k < q.2.2) (hts : ∀ w ∈ lw_all, w.before args s = true) (hown : s.vm.findClass own = some m.cls)
    (hlink : (Cond.fieldLink own idx (q.2.1 k).1 (q.2.1 k).2.1 (q.2.1 k).2.2.1).before args s = true ∨ ∃ host : String, (Cond.fieldLinkNest own idx (q.2.1 k).1 (q.2.1 k).2.1 (q.2.1 k).2.2.1 host).before args s = true) (hdg : decode cc pc = .ok (.getfield idx, 3))
    (kk : W p l e R s m args below meth c H locs cells slots Q (F0 m (pc + 3) ls (zval M a k (zty ci k) :: rest))) : W p l e R s m args below meth c H locs cells slots Q (F0 m pc ls (.ref a :: rest)) := by
  obtain ⟨hin, hty, hnm⟩ := zcl_in ci q hc
  obtain ⟨cell, h1, h2, h3, h4, h5, h6⟩ := hR.2.2.1 a ci q hc hk
  obtain ⟨hS, hfc, kC, hkC, hkind⟩ := hK.1 ci _ hc
  obtain ⟨cf, kf, fi, f, hi, hsl⟩ := hS k hkN
  have hst := (u_facts hfc hkC (u_lays hts hin hkN) hi).1
  rcases hlink with hlink | ⟨host, hlink⟩
  · exact W.getf hx hb hown hlink hi hst h1 h4 (v := zval M a k (zty ci k)) (by rw [hsl]; exact h6 k hkN) rfl rfl hdg kk
  · exact va_Wgetf hx hb hown hlink hi hst h1 h4 (v := zval M a k (zty ci k)) (by rw [hsl]; exact h6 k hkN) rfl rfl hdg kk
theorem z_put (hx : p.tables.exec = Jvm.exec) (hb : c.code = cc) (hK : va_K D.1 zcl (ztl D.2) s) (hR : zRep D E s M H) (hS0 : va_S (fun x => E.1 ≤ x) H0 H locs) (hc : zcl[ci]? = some q) (hk : mK M a = ci + 1) (hkN : k < q.2.2) (hts : ∀ w ∈ lw_all, w.before args s = true) (hown : s.vm.findClass own = some m.cls) (hB : E.1 ≤ a)
    (hlink : ((Cond.fieldLink own idx (q.2.1 k).1 (q.2.1 k).2.1 (q.2.1 k).2.2.1).before args s = true ∧ ((q.2.1 k).2.2.2 = true → meth.name = "<init>" ∧ (q.2.1 k).1 = own)) ∨ ((q.2.1 k).2.2.2 = false ∧ ∃ host : String, (Cond.fieldLinkNest own idx (q.2.1 k).1 (q.2.1 k).2.1 (q.2.1 k).2.2.1 host).before args s = true)) (hdg : decode cc pc = .ok (.putfield idx, 3))
    {v : Value} (hn : narrow (zty ci k) v = v) (hfit : fits (zty ci k) v = true)
    (hS : mS M' = mS M) (hKK : mK M' = mK M) (hNN : mN M' = mN M) (hJ : ∀ b j, b ≠ a → mJ M' b j = mJ M b j) (hI : ∀ b j, b ≠ a → mI M' b j = mI M b j) (hG : ∀ b j, b ≠ a → mG M' b j = mG M b j)
    (hv : ∀ j, zval M' a j (zty ci j) = if j = k then v else zval M a j (zty ci j))
    (kk : ∀ (H' : Heap) (locs' : List Loc), zRep D E s M' H' → va_S (fun x => E.1 ≤ x) H0 H' locs' → W p l e R s m args below meth c H' locs' cells slots Q (F0 m (pc + 3) ls rest)) : W p l e R s m args below meth c H locs cells slots Q (F0 m pc ls (v :: .ref a :: rest)) := by
  obtain ⟨hin, hty, hnm⟩ := zcl_in ci q hc
  have hap := va_apart (own := own) hts hin (zty ci) hty hnm hK hc
  obtain ⟨cell, h1, h2, h3, h4, h5, h6⟩ := hR.2.2.1 a ci q hc hk
  have hvm := h5 hB
  obtain ⟨hS1, hfc, kC, hkC, hkind⟩ := hK.1 ci _ hc
  obtain ⟨cf, kf, fi, f, hi, hsl⟩ := hS1 k hkN
  have hst := (u_facts hfc hkC (u_lays hts hin hkN) hi).1
  have hd := hty k hkN
  have main : ∀ H' : Heap, H'[a]? = some (cell.setSlot (D.1.2 ci k) v) → H'.size = H.size → (∀ x, x ≠ a → H'[x]? = H[x]?) → zRep D E s M' H' ∧ va_S (fun x => E.1 ≤ x) H0 H' (locs ++ [⟨a, D.1.2 ci k⟩]) := by
    intro H' e1 e2 e3
    refine ⟨hR.put e2 e3 hS hKK hNN hJ hI hG (fun c2 q2 hc2 hk2 => ?_) (fun i t hi2 hk2 => ?_), hS0.put e2 e3 hB⟩
    · have e4 : c2 = ci := by omega
      subst e4
      cases hc2.symm.trans hc
      refine ⟨_, e1, h2, h3, h4, fun _ => hvm, fun j hj => ?_⟩
      rw [t_set h6 hap hkN v j hj, hv j]
      rfl
    · have := zcl_lt hc
      have := zat_lt hi2
      omega
  rcases hlink with ⟨hlink, hf⟩ | ⟨hf, host, hlink⟩
  · cases hfl : (q.2.1 k).2.2.2 with
    | false =>
      have hlay := hts _ (hin _ (u_in_lay hkN))
      unfold u_lay at hlay
      rw [if_neg (by rw [hfl]; decide)] at hlay
      have h9 := u_store hfc hkC hkind hlay hi hd hn hfit
      refine W.putK hx hb (f := f) ⟨hown, hlink, ⟨_, _, _, hi⟩, hst⟩ (by rw [h2]; exact h9) h1 hvm (by rw [hsl]; exact k2_hasslot (h6 k hkN)) rfl rfl hdg fun H' e1 e2 e3 => ?_
      rw [hsl] at e1 ⊢
      obtain ⟨a1, a2⟩ := main H' e1 e2 e3
      exact kk H' _ a1 a2
    | true =>
      have hlay := hts _ (hin _ (u_in_lay hkN))
      unfold u_lay at hlay
      rw [if_pos hfl] at hlay
      obtain ⟨hin2, hdecl⟩ := hf hfl
      have hcf : m.cls = cf := by
        obtain ⟨_, _, c', _, _, _, -, -, hf', -, -, -, hown2, -⟩ := Cond.laysFinal_spec hlay
        have e1 : c' = cf := by have := hi.symm.trans hf'; simp at this; exact this.1.symm
        rw [hdecl] at hown2
        rw [← e1]; exact Option.some.inj (hown.symm.trans hown2)
      have h9 := u_fits hfc hkC hkind (Or.inr hlay) hi hd hn hfit
      refine W.putFinK hx hb hown hlink hi hst hcf hin2 (by rw [h2]; exact h9) h1 hvm (by rw [hsl]; exact k2_hasslot (h6 k hkN)) rfl rfl hdg fun H' e1 e2 e3 => ?_
      rw [hsl] at e1 ⊢
      obtain ⟨a1, a2⟩ := main H' e1 e2 e3
      exact kk H' _ a1 a2
  · have hlay := hts _ (hin _ (u_in_lay hkN))
    unfold u_lay at hlay
    rw [if_neg (by rw [hf]; decide)] at hlay
    have h9 := u_store hfc hkC hkind hlay hi hd hn hfit
    refine va_WputK hx hb (f := f) hown hlink hi hst (by rw [h2]; exact h9) h1 hvm (by rw [hsl]; exact k2_hasslot (h6 k hkN)) rfl rfl hdg fun H' e1 e2 e3 => ?_
    rw [hsl] at e1 ⊢
    obtain ⟨a1, a2⟩ := main H' e1 e2 e3
    exact kk H' _ a1 a2
theorem zix_t {j : Int32} {n : Nat} (h : zix j n = true) : ¬ j < 0 ∧ j.toNatClampNeg < n := by
  simp only [zix, Bool.and_eq_true, decide_eq_true_eq] at h
  exact ⟨fun h1 => absurd h.1 (Int32.not_le.mpr h1), h.2⟩
theorem zix_in {j : Int32} {n : Nat} (h : zix j n = true) : ¬ (j < 0 ∨ n ≤ j.toNatClampNeg) := by
  obtain ⟨h1, h2⟩ := zix_t h
  rintro (h3 | h3)
  · exact h1 h3
  · omega
theorem z_iald (hx : p.tables.exec = Jvm.exec) (hb : c.code = cc) (hR : zRep D E s M H) (hk : mK M a = 101) {j : Int32} (hj : zix j (mN M a) = true) (hdg : decode cc pc = .ok (.iaload, 1))
    (kk : W p l e R s m args below meth c H locs cells slots Q (F0 m (pc + 1) ls (.int (mI M a j.toNatClampNeg) :: rest))) : W p l e R s m args below meth c H locs cells slots Q (F0 m pc ls (.int j :: .ref a :: rest)) := by
  obtain ⟨cell, h1, h2, h3, h4, h5, h6, -⟩ := hR.2.2.2 a 0 .int rfl hk
  exact W.iald hx hb h1 h2 h3 (by rw [h4]; exact zix_in hj) (h6 _ (zix_t hj).2) rfl rfl hdg kk
theorem z_bald (hx : p.tables.exec = Jvm.exec) (hb : c.code = cc) (hR : zRep D E s M H) (hk : mK M a = 102 ∨ mK M a = 104) {j : Int32} (hj : zix j (mN M a) = true) (hdg : decode cc pc = .ok (.baload, 1))
    (kk : W p l e R s m args below meth c H locs cells slots Q (F0 m (pc + 1) ls (.int (mI M a j.toNatClampNeg) :: rest))) : W p l e R s m args below meth c H locs cells slots Q (F0 m pc ls (.int j :: .ref a :: rest)) := by
  rcases hk with hk | hk
  · obtain ⟨cell, h1, h2, h3, h4, h5, h6, -⟩ := hR.2.2.2 a 1 .byte rfl hk
    exact W.bald hx hb h1 h2 h3 (by rw [h4]; exact zix_in hj) (h6 _ (zix_t hj).2) rfl rfl hdg kk
  · obtain ⟨cell, h1, h2, h3, h4, h5, h6, -⟩ := hR.2.2.2 a 3 .boolean rfl hk
    exact W.zald hx hb h1 h2 h3 (by rw [h4]; exact zix_in hj) (h6 _ (zix_t hj).2) rfl rfl hdg kk
theorem z_cald (hx : p.tables.exec = Jvm.exec) (hb : c.code = cc) (hR : zRep D E s M H) (hk : mK M a = 103) {j : Int32} (hj : zix j (mN M a) = true) (hdg : decode cc pc = .ok (.caload, 1))
    (kk : W p l e R s m args below meth c H locs cells slots Q (F0 m (pc + 1) ls (.int (mI M a j.toNatClampNeg) :: rest))) : W p l e R s m args below meth c H locs cells slots Q (F0 m pc ls (.int j :: .ref a :: rest)) := by
  obtain ⟨cell, h1, h2, h3, h4, h5, h6, -⟩ := hR.2.2.2 a 2 .char rfl hk
  exact W.cald hx hb h1 h2 h3 (by rw [h4]; exact zix_in hj) (h6 _ (zix_t hj).2) rfl rfl hdg kk
/-- the arrays of references -/
theorem zat_ref {i : Nat} {t : FieldType} (h : zat[i]? = some t) (hi : 4 ≤ i) : ∃ C : String, t = .object C := by
  match i, h, hi with
  | 4, h, _ => cases h; exact ⟨_, rfl⟩
  | 5, h, _ => cases h; exact ⟨_, rfl⟩
  | 6, h, _ => cases h; exact ⟨_, rfl⟩
  | 7, h, _ => cases h; exact ⟨_, rfl⟩
  | 8, h, _ => cases h; exact ⟨_, rfl⟩
  | 9, h, _ => cases h; exact ⟨_, rfl⟩
  | 10, h, _ => cases h; exact ⟨_, rfl⟩
  | i + 11, h, _ => simp [zat] at h
theorem z_aald (hx : p.tables.exec = Jvm.exec) (hb : c.code = cc) (hR : zRep D E s M H) {i : Nat} {t : FieldType} (hi : zat[i]? = some t) (h4i : 4 ≤ i) (hk : mK M a = 101 + i) {j : Int32} (hj : zix j (mN M a) = true) (hdg : decode cc pc = .ok (.aaload, 1))
    (kk : W p l e R s m args below meth c H locs cells slots Q (F0 m (pc + 1) ls (va_rf (mJ M a j.toNatClampNeg) :: rest))) : W p l e R s m args below meth c H locs cells slots Q (F0 m pc ls (.int j :: .ref a :: rest)) := by
  obtain ⟨C, rfl⟩ := zat_ref hi h4i
  obtain ⟨cell, h1, h2, h3, h4, h5, h6, -⟩ := hR.2.2.2 a i _ hi hk
  exact W.aald hx hb h1 h2 rfl h3 (by rw [h4]; exact zix_in hj) (h6 _ (zix_t hj).2) rfl rfl hdg kk
/-- a store into an own array -/
theorem zRep.aput {i : Nat} {t : FieldType} {H' : Heap} {k : Nat} {v : Value} {cell : Cell} (hR : zRep D E s M H) (hi : zat[i]? = some t) (hk : mK M a = 101 + i) (hB : E.1 ≤ a) (h1 : H[a]? = some cell) (e1 : H'[a]? = some (cell.setSlot k v)) (e2 : H'.size = H.size) (e3 : ∀ x, x ≠ a → H'[x]? = H[x]?)
    (hS : mS M' = mS M) (hKK : mK M' = mK M) (hNN : mN M' = mN M) (hJ : ∀ b j, b ≠ a → mJ M' b j = mJ M b j) (hI : ∀ b j, b ≠ a → mI M' b j = mI M b j) (hG : ∀ b j, b ≠ a → mG M' b j = mG M b j)
    (hv : ∀ j, zval M' a j t = if j = k then v else zval M a j t) : zRep D E s M' H' := by
  obtain ⟨cell', h1', h2, h3, h4, h5, h6, h7⟩ := hR.2.2.2 a i t hi hk
  cases h1.symm.trans h1'
  refine hR.put e2 e3 hS hKK hNN hJ hI hG (fun c2 q2 hc2 hk2 => ?_) (fun i2 t2 hi2 hk2 => ?_)
  · have := zcl_lt hc2
    omega
  · have e4 : i2 = i := by omega
    subst e4
    cases hi2.symm.trans hi
    have hce := h7 hB
    have e5 : cell.setSlot k v = arrV (D.2 i2) (mN M' a) (fun j => zval M' a j t) := by
      rw [hce, arrV_store, hNN]
      congr 1
      funext j
      rw [hv j]
      rfl
    refine ⟨_, e1, ?_, ?_, ?_, by rw [hNN]; exact h5, fun j hj => ?_, fun _ => e5⟩
    · rw [hce] at h2
      rw [e5]
      exact h2
    · rw [e5]; exact fun h => by cases h
    · rw [e5, arrV_size]
    · rw [e5, arrV_read _ _ hj]
theorem z_iast (hx : p.tables.exec = Jvm.exec) (hb : c.code = cc) (hR : zRep D E s M H) (hS0 : va_S (fun x => E.1 ≤ x) H0 H locs) (hk : mK M a = 101) (hB : E.1 ≤ a) {j w : Int32} (hj : zix j (mN M a) = true) (hdg : decode cc pc = .ok (.iastore, 1))
    (kk : ∀ (H' : Heap) (locs' : List Loc), zRep D E s (sI M a j.toNatClampNeg w) H' → va_S (fun x => E.1 ≤ x) H0 H' locs' → W p l e R s m args below meth c H' locs' cells slots Q (F0 m (pc + 1) ls rest)) : W p l e R s m args below meth c H locs cells slots Q (F0 m pc ls (.int w :: .int j :: .ref a :: rest)) := by
  obtain ⟨cell, h1, h2, h3, h4, h5, h6, -⟩ := hR.2.2.2 a 0 .int rfl hk
  refine W.iast hx hb h1 h2 h3 (by rw [h4]; exact zix_in hj) rfl rfl hdg fun H' e1 e2 e3 => ?_
  refine kk H' _ (hR.aput (i := 0) rfl hk hB h1 e1 e2 e3 rfl rfl rfl (fun _ _ _ => rfl) (fun b j hb => if_neg (fun h => hb h.1)) (fun _ _ _ => rfl) (fun j2 => ?_)) (hS0.put e2 e3 hB)
  show Value.int (if a = a ∧ j2 = j.toNatClampNeg then w else mI M a j2) = _
  by_cases h : j2 = j.toNatClampNeg <;> simp [h, zval]
theorem z_bast (hx : p.tables.exec = Jvm.exec) (hb : c.code = cc) (hR : zRep D E s M H) (hS0 : va_S (fun x => E.1 ≤ x) H0 H locs) (hk : mK M a = 102) (hB : E.1 ≤ a) {j w : Int32} (hj : zix j (mN M a) = true) (hdg : decode cc pc = .ok (.bastore, 1))
    (kk : ∀ (H' : Heap) (locs' : List Loc), zRep D E s (sI M a j.toNatClampNeg w.toInt8.toInt32) H' → va_S (fun x => E.1 ≤ x) H0 H' locs' → W p l e R s m args below meth c H' locs' cells slots Q (F0 m (pc + 1) ls rest)) : W p l e R s m args below meth c H locs cells slots Q (F0 m pc ls (.int w :: .int j :: .ref a :: rest)) := by
  obtain ⟨cell, h1, h2, h3, h4, h5, h6, -⟩ := hR.2.2.2 a 1 .byte rfl hk
  refine W.bast hx hb h1 h2 h3 (by rw [h4]; exact zix_in hj) rfl rfl hdg fun H' e1 e2 e3 => ?_
  refine kk H' _ (hR.aput (i := 1) rfl hk hB h1 e1 e2 e3 rfl rfl rfl (fun _ _ _ => rfl) (fun b j hb => if_neg (fun h => hb h.1)) (fun _ _ _ => rfl) (fun j2 => ?_)) (hS0.put e2 e3 hB)
  show Value.int (if a = a ∧ j2 = j.toNatClampNeg then w.toInt8.toInt32 else mI M a j2) = _
  by_cases h : j2 = j.toNatClampNeg <;> simp [h, zval, narrow]
theorem z_zast (hx : p.tables.exec = Jvm.exec) (hb : c.code = cc) (hR : zRep D E s M H) (hS0 : va_S (fun x => E.1 ≤ x) H0 H locs) (hk : mK M a = 104) (hB : E.1 ≤ a) {j w : Int32} (hj : zix j (mN M a) = true) (hdg : decode cc pc = .ok (.bastore, 1))
    (kk : ∀ (H' : Heap) (locs' : List Loc), zRep D E s (sI M a j.toNatClampNeg (w &&& 1)) H' → va_S (fun x => E.1 ≤ x) H0 H' locs' → W p l e R s m args below meth c H' locs' cells slots Q (F0 m (pc + 1) ls rest)) : W p l e R s m args below meth c H locs cells slots Q (F0 m pc ls (.int w :: .int j :: .ref a :: rest)) := by
  obtain ⟨cell, h1, h2, h3, h4, h5, h6, -⟩ := hR.2.2.2 a 3 .boolean rfl hk
  refine W.zast hx hb h1 h2 h3 (by rw [h4]; exact zix_in hj) rfl rfl hdg fun H' e1 e2 e3 => ?_
  refine kk H' _ (hR.aput (i := 3) rfl hk hB h1 e1 e2 e3 rfl rfl rfl (fun _ _ _ => rfl) (fun b j hb => if_neg (fun h => hb h.1)) (fun _ _ _ => rfl) (fun j2 => ?_)) (hS0.put e2 e3 hB)
  show Value.int (if a = a ∧ j2 = j.toNatClampNeg then (w &&& 1) else mI M a j2) = _
  by_cases h : j2 = j.toNatClampNeg <;> simp [h, zval, narrow]
theorem z_cast (hx : p.tables.exec = Jvm.exec) (hb : c.code = cc) (hR : zRep D E s M H) (hS0 : va_S (fun x => E.1 ≤ x) H0 H locs) (hk : mK M a = 103) (hB : E.1 ≤ a) {j w : Int32} (hj : zix j (mN M a) = true) (hdg : decode cc pc = .ok (.castore, 1))
    (kk : ∀ (H' : Heap) (locs' : List Loc), zRep D E s (sI M a j.toNatClampNeg (w.toUInt32 % 65536).toInt32) H' → va_S (fun x => E.1 ≤ x) H0 H' locs' → W p l e R s m args below meth c H' locs' cells slots Q (F0 m (pc + 1) ls rest)) : W p l e R s m args below meth c H locs cells slots Q (F0 m pc ls (.int w :: .int j :: .ref a :: rest)) := by
  obtain ⟨cell, h1, h2, h3, h4, h5, h6, -⟩ := hR.2.2.2 a 2 .char rfl hk
  refine W.cast hx hb h1 h2 h3 (by rw [h4]; exact zix_in hj) rfl rfl hdg fun H' e1 e2 e3 => ?_
  refine kk H' _ (hR.aput (i := 2) rfl hk hB h1 e1 e2 e3 rfl rfl rfl (fun _ _ _ => rfl) (fun b j hb => if_neg (fun h => hb h.1)) (fun _ _ _ => rfl) (fun j2 => ?_)) (hS0.put e2 e3 hB)
  show Value.int (if a = a ∧ j2 = j.toNatClampNeg then (w.toUInt32 % 65536).toInt32 else mI M a j2) = _
  by_cases h : j2 = j.toNatClampNeg
  · simp only [h, and_self, if_true, narrow, lg_i2c_nf]
  · simp [h, zval]
/-- an element's class fits the array's: by the tables -/
def zfit (s : State) (t : FieldType) (r : vw_C) : Prop := t = .object r.1 ∨ ∃ C : String, t = .object C ∧ va_Nw (.castable r.1 C) s
theorem z_aast (hx : p.tables.exec = Jvm.exec) (hb : c.code = cc) (hK : va_K D.1 zcl (ztl D.2) s) (hR : zRep D E s M H) (hS0 : va_S (fun x => E.1 ≤ x) H0 H locs) {i v cv : Nat} {t : FieldType} {r : vw_C} (hi : zat[i]? = some t) (h4i : 4 ≤ i) (hk : mK M a = 101 + i) (hB : E.1 ≤ a) (hcv : zcl[cv]? = some r) (hkv : mK M v = cv + 1) (hft : zfit s t r) {j : Int32} (hj : zix j (mN M a) = true) (hdg : decode cc pc = .ok (.aastore, 1))
    (kk : ∀ (H' : Heap) (locs' : List Loc), zRep D E s (sJ M a j.toNatClampNeg (some v)) H' → va_S (fun x => E.1 ≤ x) H0 H' locs' → W p l e R s m args below meth c H' locs' cells slots Q (F0 m (pc + 1) ls rest)) : W p l e R s m args below meth c H locs cells slots Q (F0 m pc ls (.ref v :: .int j :: .ref a :: rest)) := by
  obtain ⟨C, rfl⟩ := zat_ref hi h4i
  obtain ⟨cell, h1, h2, h3, h4, h5, h6, h7⟩ := hR.2.2.2 a i _ hi hk
  obtain ⟨cellV, g1, g2, g3, g4, -, -⟩ := hR.2.2.1 v cv r hcv hkv
  have hcls := (hK.1 cv r hcv).2
  obtain ⟨kA, comp, k1, k2, k3, -⟩ := (hK.2 i _ (ztl_at hi)).2
  have hce := h7 hB
  have hasg : s.vm.assignable (D.1.1 cv) comp = true := by
    rcases hft with hf | ⟨C', hf, hca⟩
    · cases hf
      have hcomp : comp = D.1.1 cv := Option.some.inj (k3.symm.trans hcls.1)
      rw [hcomp]
      exact va_assign hcls
    · cases hf
      obtain ⟨c0, t1, f1, f2, f3⟩ := Cond.castable_spec (va_Nw.use (A := args) rfl hca)
      cases f1.symm.trans hcls.1
      cases f2.symm.trans k3
      exact f3
  obtain ⟨kC, hkC, -⟩ := hcls.2
  obtain ⟨kT, hkT, -⟩ := Vm.findClass_spec k3
  refine W.aast hx hb h1 (fun q h => by rw [hce] at h; cases h) h3 (by rw [hce]; exact k1) k2 rfl hkT ⟨(zix_t hj).1, by rw [h4]; exact (zix_t hj).2⟩ g1 (fun q h => by rw [h] at g3; cases g3) (by rw [g2]; exact hkC) (by rw [g2]; exact hasg) rfl rfl hdg fun H' e1 e2 e3 => ?_
  refine kk H' _ (hR.aput hi hk hB h1 e1 e2 e3 rfl rfl rfl (fun b j hb => if_neg (fun h => hb h.1)) (fun _ _ _ => rfl) (fun _ _ _ => rfl) (fun j2 => ?_)) (hS0.put e2 e3 hB)
  show va_rf (if a = a ∧ j2 = j.toNatClampNeg then some v else mJ M a j2) = _
  by_cases h : j2 = j.toNatClampNeg <;> simp [h, zval, va_rf]
theorem z_alen (hx : p.tables.exec = Jvm.exec) (hb : c.code = cc) (hR : zRep D E s M H) {i : Nat} {t : FieldType} (hi : zat[i]? = some t) (hk : mK M a = 101 + i) (hdg : decode cc pc = .ok (.arraylength, 1))
    (kk : W p l e R s m args below meth c H locs cells slots Q (F0 m (pc + 1) ls (.int (Int32.ofNat (mN M a)) :: rest))) : W p l e R s m args below meth c H locs cells slots Q (F0 m pc ls (.ref a :: rest)) := by
  obtain ⟨cell, h1, h2, h3, h4, h5, h6, -⟩ := hR.2.2.2 a i t hi hk
  exact W.alen hx hb h1 h2 (by rw [h4]) rfl rfl hdg kk
end ZROWS
