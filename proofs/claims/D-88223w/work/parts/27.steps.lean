/-! ===== the step, by instructions (printed by a program) ===== -/
section ZMAIN
variable {p : Program} {l : Launch} {e : Env} {R : Room} {s : State} {m : MethodId} {args : Array Value} {below : List Frame} {meth : Method} {c : Code} {Q : State → Prop}
variable {cc : ByteArray} {pc nxt len nL d : Nat} {D : zD} {E : zE} {M M0 M9 : zM} {own : String} {lg : Bool} {rt : Option FieldType} {ini : Prop} {o : Option zV ⊕ Nat} {ls : zL} {st : List zV} {zml : List zY} {hh : List Nat} {i : Instr} {v : Int32} {x : List Nat}
variable {cf : Nat → List zV → zM → Option zR} {bk : Nat → zL → List zV → zM → Option zR} {k : zL → List zV → zM → Option zR}
/-- what is known of the callees -/
def zCf (l : Launch) (D : zD) (E : zE) (zml : List zY) (d : Nat) (cf : Nat → List zV → zM → Option zR) : Prop := ∀ (y : Nat) (as : List zV) (M : zM) (o1 : Option zV ⊕ Nat) (M1 : zM), cf y as M = some (o1, M1) → mS M ≤ mS M1 ∧ mU M ≤ mU M1 ∧ ∃ d2 : Nat, d = d2 + 1 ∧ ∀ r : zY, zml[y]? = some r → zcw r ∧ yL r ≤ 13 ∧ ((∀ v ∈ as, (zvv v).category = 1) → as.length ≤ yL r → zCon l D E r d2 as M o1 M1)
/-- the room of a method at depth d, for all that it makes -/
def zRo (R : Room) (d : Nat) (M0 M9 : zM) : Prop := d + 1 ≤ R.frames ∧ 32 * (d + 1) ≤ R.locals ∧ mS M9 - mS M0 ≤ R.cells ∧ mU M9 - mU M0 ≤ R.slots

theorem zs_iadd_ok (hF : zFx p s m args meth c D E own cc nL ini) (hk : ∀ (ls : zL) (st : List zV) (M : zM), k ls st M = some (o, M9) → zGo p l e R s m args below meth c Q D E nL lg M0 M9 nxt ls st M) (hbk : ∀ (t : Nat) (ls : zL) (st : List zV) (M : zM), bk t ls st M = some (o, M9) → zGo p l e R s m args below meth c Q D E nL lg M0 M9 t ls st M)  (h : zst E cf bk hh k pc .iadd v x ls st M = some (o, M9)) (hd : decode cc pc = .ok (.iadd, len)) (hl : zlk zml own nL lg rt ini pc len nxt .iadd v x) : zGo p l e R s m args below meth c Q D E nL lg M0 M9 pc ls st M := by
  obtain ⟨hx, hb, hml, hown, hts, hG, hini⟩ := hF
  obtain ⟨rfl, rfl⟩ := hl
  obtain ⟨b, a, r, rfl, h1⟩ := zp2_inv h
  obtain ⟨hm, hw⟩ := hk _ _ _ h1
  exact ⟨hm, fun arr H locs g1 g2 g3 g4 g5 => lv_iadd hx hb hd (hw arr H locs g1 g2 g3 g4 g5)⟩
theorem zs_isub_ok (hF : zFx p s m args meth c D E own cc nL ini) (hk : ∀ (ls : zL) (st : List zV) (M : zM), k ls st M = some (o, M9) → zGo p l e R s m args below meth c Q D E nL lg M0 M9 nxt ls st M) (hbk : ∀ (t : Nat) (ls : zL) (st : List zV) (M : zM), bk t ls st M = some (o, M9) → zGo p l e R s m args below meth c Q D E nL lg M0 M9 t ls st M)  (h : zst E cf bk hh k pc .isub v x ls st M = some (o, M9)) (hd : decode cc pc = .ok (.isub, len)) (hl : zlk zml own nL lg rt ini pc len nxt .isub v x) : zGo p l e R s m args below meth c Q D E nL lg M0 M9 pc ls st M := by
  obtain ⟨hx, hb, hml, hown, hts, hG, hini⟩ := hF
  obtain ⟨rfl, rfl⟩ := hl
  obtain ⟨b, a, r, rfl, h1⟩ := zp2_inv h
  obtain ⟨hm, hw⟩ := hk _ _ _ h1
  exact ⟨hm, fun arr H locs g1 g2 g3 g4 g5 => lv_isub hx hb hd (hw arr H locs g1 g2 g3 g4 g5)⟩
theorem zs_imul_ok (hF : zFx p s m args meth c D E own cc nL ini) (hk : ∀ (ls : zL) (st : List zV) (M : zM), k ls st M = some (o, M9) → zGo p l e R s m args below meth c Q D E nL lg M0 M9 nxt ls st M) (hbk : ∀ (t : Nat) (ls : zL) (st : List zV) (M : zM), bk t ls st M = some (o, M9) → zGo p l e R s m args below meth c Q D E nL lg M0 M9 t ls st M)  (h : zst E cf bk hh k pc .imul v x ls st M = some (o, M9)) (hd : decode cc pc = .ok (.imul, len)) (hl : zlk zml own nL lg rt ini pc len nxt .imul v x) : zGo p l e R s m args below meth c Q D E nL lg M0 M9 pc ls st M := by
  obtain ⟨hx, hb, hml, hown, hts, hG, hini⟩ := hF
  obtain ⟨rfl, rfl⟩ := hl
  obtain ⟨b, a, r, rfl, h1⟩ := zp2_inv h
  obtain ⟨hm, hw⟩ := hk _ _ _ h1
  exact ⟨hm, fun arr H locs g1 g2 g3 g4 g5 => lv_imul hx hb hd (hw arr H locs g1 g2 g3 g4 g5)⟩
theorem zs_iand_ok (hF : zFx p s m args meth c D E own cc nL ini) (hk : ∀ (ls : zL) (st : List zV) (M : zM), k ls st M = some (o, M9) → zGo p l e R s m args below meth c Q D E nL lg M0 M9 nxt ls st M) (hbk : ∀ (t : Nat) (ls : zL) (st : List zV) (M : zM), bk t ls st M = some (o, M9) → zGo p l e R s m args below meth c Q D E nL lg M0 M9 t ls st M)  (h : zst E cf bk hh k pc .iand v x ls st M = some (o, M9)) (hd : decode cc pc = .ok (.iand, len)) (hl : zlk zml own nL lg rt ini pc len nxt .iand v x) : zGo p l e R s m args below meth c Q D E nL lg M0 M9 pc ls st M := by
  obtain ⟨hx, hb, hml, hown, hts, hG, hini⟩ := hF
  obtain ⟨rfl, rfl⟩ := hl
  obtain ⟨b, a, r, rfl, h1⟩ := zp2_inv h
  obtain ⟨hm, hw⟩ := hk _ _ _ h1
  exact ⟨hm, fun arr H locs g1 g2 g3 g4 g5 => lv_iand hx hb hd (hw arr H locs g1 g2 g3 g4 g5)⟩
theorem zs_ior_ok (hF : zFx p s m args meth c D E own cc nL ini) (hk : ∀ (ls : zL) (st : List zV) (M : zM), k ls st M = some (o, M9) → zGo p l e R s m args below meth c Q D E nL lg M0 M9 nxt ls st M) (hbk : ∀ (t : Nat) (ls : zL) (st : List zV) (M : zM), bk t ls st M = some (o, M9) → zGo p l e R s m args below meth c Q D E nL lg M0 M9 t ls st M)  (h : zst E cf bk hh k pc .ior v x ls st M = some (o, M9)) (hd : decode cc pc = .ok (.ior, len)) (hl : zlk zml own nL lg rt ini pc len nxt .ior v x) : zGo p l e R s m args below meth c Q D E nL lg M0 M9 pc ls st M := by
  obtain ⟨hx, hb, hml, hown, hts, hG, hini⟩ := hF
  obtain ⟨rfl, rfl⟩ := hl
  obtain ⟨b, a, r, rfl, h1⟩ := zp2_inv h
  obtain ⟨hm, hw⟩ := hk _ _ _ h1
  exact ⟨hm, fun arr H locs g1 g2 g3 g4 g5 => lv_ior hx hb hd (hw arr H locs g1 g2 g3 g4 g5)⟩
theorem zs_ishl_ok (hF : zFx p s m args meth c D E own cc nL ini) (hk : ∀ (ls : zL) (st : List zV) (M : zM), k ls st M = some (o, M9) → zGo p l e R s m args below meth c Q D E nL lg M0 M9 nxt ls st M) (hbk : ∀ (t : Nat) (ls : zL) (st : List zV) (M : zM), bk t ls st M = some (o, M9) → zGo p l e R s m args below meth c Q D E nL lg M0 M9 t ls st M)  (h : zst E cf bk hh k pc .ishl v x ls st M = some (o, M9)) (hd : decode cc pc = .ok (.ishl, len)) (hl : zlk zml own nL lg rt ini pc len nxt .ishl v x) : zGo p l e R s m args below meth c Q D E nL lg M0 M9 pc ls st M := by
  obtain ⟨hx, hb, hml, hown, hts, hG, hini⟩ := hF
  obtain ⟨rfl, rfl⟩ := hl
  obtain ⟨b, a, r, rfl, h1⟩ := zp2_inv h
  obtain ⟨hm, hw⟩ := hk _ _ _ h1
  exact ⟨hm, fun arr H locs g1 g2 g3 g4 g5 => lv_ishl hx hb hd (hw arr H locs g1 g2 g3 g4 g5)⟩
theorem zs_ishr_ok (hF : zFx p s m args meth c D E own cc nL ini) (hk : ∀ (ls : zL) (st : List zV) (M : zM), k ls st M = some (o, M9) → zGo p l e R s m args below meth c Q D E nL lg M0 M9 nxt ls st M) (hbk : ∀ (t : Nat) (ls : zL) (st : List zV) (M : zM), bk t ls st M = some (o, M9) → zGo p l e R s m args below meth c Q D E nL lg M0 M9 t ls st M)  (h : zst E cf bk hh k pc .ishr v x ls st M = some (o, M9)) (hd : decode cc pc = .ok (.ishr, len)) (hl : zlk zml own nL lg rt ini pc len nxt .ishr v x) : zGo p l e R s m args below meth c Q D E nL lg M0 M9 pc ls st M := by
  obtain ⟨hx, hb, hml, hown, hts, hG, hini⟩ := hF
  obtain ⟨rfl, rfl⟩ := hl
  obtain ⟨b, a, r, rfl, h1⟩ := zp2_inv h
  obtain ⟨hm, hw⟩ := hk _ _ _ h1
  exact ⟨hm, fun arr H locs g1 g2 g3 g4 g5 => lv_ishr hx hb hd (hw arr H locs g1 g2 g3 g4 g5)⟩
theorem zs_iushr_ok (hF : zFx p s m args meth c D E own cc nL ini) (hk : ∀ (ls : zL) (st : List zV) (M : zM), k ls st M = some (o, M9) → zGo p l e R s m args below meth c Q D E nL lg M0 M9 nxt ls st M) (hbk : ∀ (t : Nat) (ls : zL) (st : List zV) (M : zM), bk t ls st M = some (o, M9) → zGo p l e R s m args below meth c Q D E nL lg M0 M9 t ls st M)  (h : zst E cf bk hh k pc .iushr v x ls st M = some (o, M9)) (hd : decode cc pc = .ok (.iushr, len)) (hl : zlk zml own nL lg rt ini pc len nxt .iushr v x) : zGo p l e R s m args below meth c Q D E nL lg M0 M9 pc ls st M := by
  obtain ⟨hx, hb, hml, hown, hts, hG, hini⟩ := hF
  obtain ⟨rfl, rfl⟩ := hl
  obtain ⟨b, a, r, rfl, h1⟩ := zp2_inv h
  obtain ⟨hm, hw⟩ := hk _ _ _ h1
  exact ⟨hm, fun arr H locs g1 g2 g3 g4 g5 => lv_iushr hx hb hd rfl (hw arr H locs g1 g2 g3 g4 g5)⟩
theorem zs_idiv_ok (hF : zFx p s m args meth c D E own cc nL ini) (hk : ∀ (ls : zL) (st : List zV) (M : zM), k ls st M = some (o, M9) → zGo p l e R s m args below meth c Q D E nL lg M0 M9 nxt ls st M) (hbk : ∀ (t : Nat) (ls : zL) (st : List zV) (M : zM), bk t ls st M = some (o, M9) → zGo p l e R s m args below meth c Q D E nL lg M0 M9 t ls st M)  (h : zst E cf bk hh k pc .idiv v x ls st M = some (o, M9)) (hd : decode cc pc = .ok (.idiv, len)) (hl : zlk zml own nL lg rt ini pc len nxt .idiv v x) : zGo p l e R s m args below meth c Q D E nL lg M0 M9 pc ls st M := by
  obtain ⟨hx, hb, hml, hown, hts, hG, hini⟩ := hF
  obtain ⟨rfl, rfl⟩ := hl
  obtain ⟨b, a, r, rfl, h1⟩ := zp2_inv h
  obtain ⟨h2, h3⟩ := zif_inv h1
  have hne : ¬ b = 0 := by simpa using h2
  obtain ⟨hm, hw⟩ := hk _ _ _ h3
  exact ⟨hm, fun arr H locs g1 g2 g3 g4 g5 => lv_idiv hx hb hd hne (hw arr H locs g1 g2 g3 g4 g5)⟩
theorem zs_irem_ok (hF : zFx p s m args meth c D E own cc nL ini) (hk : ∀ (ls : zL) (st : List zV) (M : zM), k ls st M = some (o, M9) → zGo p l e R s m args below meth c Q D E nL lg M0 M9 nxt ls st M) (hbk : ∀ (t : Nat) (ls : zL) (st : List zV) (M : zM), bk t ls st M = some (o, M9) → zGo p l e R s m args below meth c Q D E nL lg M0 M9 t ls st M)  (h : zst E cf bk hh k pc .irem v x ls st M = some (o, M9)) (hd : decode cc pc = .ok (.irem, len)) (hl : zlk zml own nL lg rt ini pc len nxt .irem v x) : zGo p l e R s m args below meth c Q D E nL lg M0 M9 pc ls st M := by
  obtain ⟨hx, hb, hml, hown, hts, hG, hini⟩ := hF
  obtain ⟨rfl, rfl⟩ := hl
  obtain ⟨b, a, r, rfl, h1⟩ := zp2_inv h
  obtain ⟨h2, h3⟩ := zif_inv h1
  have hne : ¬ b = 0 := by simpa using h2
  obtain ⟨hm, hw⟩ := hk _ _ _ h3
  exact ⟨hm, fun arr H locs g1 g2 g3 g4 g5 => lv_irem hx hb hd hne (hw arr H locs g1 g2 g3 g4 g5)⟩
theorem zs_ineg_ok (hF : zFx p s m args meth c D E own cc nL ini) (hk : ∀ (ls : zL) (st : List zV) (M : zM), k ls st M = some (o, M9) → zGo p l e R s m args below meth c Q D E nL lg M0 M9 nxt ls st M) (hbk : ∀ (t : Nat) (ls : zL) (st : List zV) (M : zM), bk t ls st M = some (o, M9) → zGo p l e R s m args below meth c Q D E nL lg M0 M9 t ls st M)  (h : zst E cf bk hh k pc .ineg v x ls st M = some (o, M9)) (hd : decode cc pc = .ok (.ineg, len)) (hl : zlk zml own nL lg rt ini pc len nxt .ineg v x) : zGo p l e R s m args below meth c Q D E nL lg M0 M9 pc ls st M := by
  obtain ⟨hx, hb, hml, hown, hts, hG, hini⟩ := hF
  obtain ⟨rfl, rfl⟩ := hl
  obtain ⟨a, r, rfl, h1⟩ := zp1_inv h
  obtain ⟨hm, hw⟩ := hk _ _ _ h1
  exact ⟨hm, fun arr H locs g1 g2 g3 g4 g5 => lv_ineg hx hb hd (hw arr H locs g1 g2 g3 g4 g5)⟩
theorem zs_i2b_ok (hF : zFx p s m args meth c D E own cc nL ini) (hk : ∀ (ls : zL) (st : List zV) (M : zM), k ls st M = some (o, M9) → zGo p l e R s m args below meth c Q D E nL lg M0 M9 nxt ls st M) (hbk : ∀ (t : Nat) (ls : zL) (st : List zV) (M : zM), bk t ls st M = some (o, M9) → zGo p l e R s m args below meth c Q D E nL lg M0 M9 t ls st M)  (h : zst E cf bk hh k pc .i2b v x ls st M = some (o, M9)) (hd : decode cc pc = .ok (.i2b, len)) (hl : zlk zml own nL lg rt ini pc len nxt .i2b v x) : zGo p l e R s m args below meth c Q D E nL lg M0 M9 pc ls st M := by
  obtain ⟨hx, hb, hml, hown, hts, hG, hini⟩ := hF
  obtain ⟨rfl, rfl⟩ := hl
  obtain ⟨a, r, rfl, h1⟩ := zp1_inv h
  obtain ⟨hm, hw⟩ := hk _ _ _ h1
  exact ⟨hm, fun arr H locs g1 g2 g3 g4 g5 => lv_i2b hx hb hd rfl (hw arr H locs g1 g2 g3 g4 g5)⟩
theorem zs_i2c_ok (hF : zFx p s m args meth c D E own cc nL ini) (hk : ∀ (ls : zL) (st : List zV) (M : zM), k ls st M = some (o, M9) → zGo p l e R s m args below meth c Q D E nL lg M0 M9 nxt ls st M) (hbk : ∀ (t : Nat) (ls : zL) (st : List zV) (M : zM), bk t ls st M = some (o, M9) → zGo p l e R s m args below meth c Q D E nL lg M0 M9 t ls st M)  (h : zst E cf bk hh k pc .i2c v x ls st M = some (o, M9)) (hd : decode cc pc = .ok (.i2c, len)) (hl : zlk zml own nL lg rt ini pc len nxt .i2c v x) : zGo p l e R s m args below meth c Q D E nL lg M0 M9 pc ls st M := by
  obtain ⟨hx, hb, hml, hown, hts, hG, hini⟩ := hF
  obtain ⟨rfl, rfl⟩ := hl
  obtain ⟨a, r, rfl, h1⟩ := zp1_inv h
  obtain ⟨hm, hw⟩ := hk _ _ _ h1
  exact ⟨hm, fun arr H locs g1 g2 g3 g4 g5 => lv_i2c hx hb hd rfl (hw arr H locs g1 g2 g3 g4 g5)⟩
theorem zs_i2l_ok (hF : zFx p s m args meth c D E own cc nL ini) (hk : ∀ (ls : zL) (st : List zV) (M : zM), k ls st M = some (o, M9) → zGo p l e R s m args below meth c Q D E nL lg M0 M9 nxt ls st M) (hbk : ∀ (t : Nat) (ls : zL) (st : List zV) (M : zM), bk t ls st M = some (o, M9) → zGo p l e R s m args below meth c Q D E nL lg M0 M9 t ls st M)  (h : zst E cf bk hh k pc .i2l v x ls st M = some (o, M9)) (hd : decode cc pc = .ok (.i2l, len)) (hl : zlk zml own nL lg rt ini pc len nxt .i2l v x) : zGo p l e R s m args below meth c Q D E nL lg M0 M9 pc ls st M := by
  obtain ⟨hx, hb, hml, hown, hts, hG, hini⟩ := hF
  obtain ⟨rfl, rfl⟩ := hl
  obtain ⟨a, r, rfl, h1⟩ := zp1_inv h
  obtain ⟨hm, hw⟩ := hk _ _ _ h1
  exact ⟨hm, fun arr H locs g1 g2 g3 g4 g5 => lv_i2l hx hb hd rfl (hw arr H locs g1 g2 g3 g4 g5)⟩
theorem zs_ladd_ok (hF : zFx p s m args meth c D E own cc nL ini) (hk : ∀ (ls : zL) (st : List zV) (M : zM), k ls st M = some (o, M9) → zGo p l e R s m args below meth c Q D E nL lg M0 M9 nxt ls st M) (hbk : ∀ (t : Nat) (ls : zL) (st : List zV) (M : zM), bk t ls st M = some (o, M9) → zGo p l e R s m args below meth c Q D E nL lg M0 M9 t ls st M)  (h : zst E cf bk hh k pc .ladd v x ls st M = some (o, M9)) (hd : decode cc pc = .ok (.ladd, len)) (hl : zlk zml own nL lg rt ini pc len nxt .ladd v x) : zGo p l e R s m args below meth c Q D E nL lg M0 M9 pc ls st M := by
  obtain ⟨hx, hb, hml, hown, hts, hG, hini⟩ := hF
  obtain ⟨rfl, rfl⟩ := hl
  obtain ⟨b, a, r, rfl, h1⟩ := zpl2_inv h
  obtain ⟨hm, hw⟩ := hk _ _ _ h1
  exact ⟨hm, fun arr H locs g1 g2 g3 g4 g5 => lv_ladd hx hb hd (hw arr H locs g1 g2 g3 g4 g5)⟩
theorem zs_lmul_ok (hF : zFx p s m args meth c D E own cc nL ini) (hk : ∀ (ls : zL) (st : List zV) (M : zM), k ls st M = some (o, M9) → zGo p l e R s m args below meth c Q D E nL lg M0 M9 nxt ls st M) (hbk : ∀ (t : Nat) (ls : zL) (st : List zV) (M : zM), bk t ls st M = some (o, M9) → zGo p l e R s m args below meth c Q D E nL lg M0 M9 t ls st M)  (h : zst E cf bk hh k pc .lmul v x ls st M = some (o, M9)) (hd : decode cc pc = .ok (.lmul, len)) (hl : zlk zml own nL lg rt ini pc len nxt .lmul v x) : zGo p l e R s m args below meth c Q D E nL lg M0 M9 pc ls st M := by
  obtain ⟨hx, hb, hml, hown, hts, hG, hini⟩ := hF
  obtain ⟨rfl, rfl⟩ := hl
  obtain ⟨b, a, r, rfl, h1⟩ := zpl2_inv h
  obtain ⟨hm, hw⟩ := hk _ _ _ h1
  exact ⟨hm, fun arr H locs g1 g2 g3 g4 g5 => lv_lmul hx hb hd (hw arr H locs g1 g2 g3 g4 g5)⟩
theorem zs_lcmp_ok (hF : zFx p s m args meth c D E own cc nL ini) (hk : ∀ (ls : zL) (st : List zV) (M : zM), k ls st M = some (o, M9) → zGo p l e R s m args below meth c Q D E nL lg M0 M9 nxt ls st M) (hbk : ∀ (t : Nat) (ls : zL) (st : List zV) (M : zM), bk t ls st M = some (o, M9) → zGo p l e R s m args below meth c Q D E nL lg M0 M9 t ls st M)  (h : zst E cf bk hh k pc .lcmp v x ls st M = some (o, M9)) (hd : decode cc pc = .ok (.lcmp, len)) (hl : zlk zml own nL lg rt ini pc len nxt .lcmp v x) : zGo p l e R s m args below meth c Q D E nL lg M0 M9 pc ls st M := by
  obtain ⟨hx, hb, hml, hown, hts, hG, hini⟩ := hF
  obtain ⟨rfl, rfl⟩ := hl
  obtain ⟨b, a, r, rfl, h1⟩ := zpl2_inv h
  obtain ⟨hm, hw⟩ := hk _ _ _ h1
  exact ⟨hm, fun arr H locs g1 g2 g3 g4 g5 => W.lcmp hx hb hd (hw arr H locs g1 g2 g3 g4 g5)⟩
theorem zs_iload_n_ok (hF : zFx p s m args meth c D E own cc nL ini) (hk : ∀ (ls : zL) (st : List zV) (M : zM), k ls st M = some (o, M9) → zGo p l e R s m args below meth c Q D E nL lg M0 M9 nxt ls st M) (hbk : ∀ (t : Nat) (ls : zL) (st : List zV) (M : zM), bk t ls st M = some (o, M9) → zGo p l e R s m args below meth c Q D E nL lg M0 M9 t ls st M) {n : Fin 4} (h : zst E cf bk hh k pc (.iload_n n) v x ls st M = some (o, M9)) (hd : decode cc pc = .ok ((.iload_n n), len)) (hl : zlk zml own nL lg rt ini pc len nxt (.iload_n n) v x) : zGo p l e R s m args below meth c Q D E nL lg M0 M9 pc ls st M := by
  obtain ⟨hx, hb, hml, hown, hts, hG, hini⟩ := hF
  obtain ⟨rfl, rfl, rfl⟩ := hl
  obtain ⟨a, h1, h2⟩ := zli_inv h
  obtain ⟨hm, hw⟩ := hk _ _ _ h2
  exact ⟨hm, fun arr H locs g1 g2 g3 g4 g5 => lv_iload_n hx hb hd rfl (g1.at h1) (hw arr H locs g1 g2 g3 g4 g5)⟩
theorem zs_iload_ok (hF : zFx p s m args meth c D E own cc nL ini) (hk : ∀ (ls : zL) (st : List zV) (M : zM), k ls st M = some (o, M9) → zGo p l e R s m args below meth c Q D E nL lg M0 M9 nxt ls st M) (hbk : ∀ (t : Nat) (ls : zL) (st : List zV) (M : zM), bk t ls st M = some (o, M9) → zGo p l e R s m args below meth c Q D E nL lg M0 M9 t ls st M) {n : Nat} (h : zst E cf bk hh k pc (.iload n) v x ls st M = some (o, M9)) (hd : decode cc pc = .ok ((.iload n), len)) (hl : zlk zml own nL lg rt ini pc len nxt (.iload n) v x) : zGo p l e R s m args below meth c Q D E nL lg M0 M9 pc ls st M := by
  obtain ⟨hx, hb, hml, hown, hts, hG, hini⟩ := hF
  obtain ⟨rfl, rfl, rfl⟩ := hl
  obtain ⟨a, h1, h2⟩ := zli_inv h
  obtain ⟨hm, hw⟩ := hk _ _ _ h2
  exact ⟨hm, fun arr H locs g1 g2 g3 g4 g5 => lv_iload hx hb hd (g1.at h1) (hw arr H locs g1 g2 g3 g4 g5)⟩
theorem zs_aload_n_ok (hF : zFx p s m args meth c D E own cc nL ini) (hk : ∀ (ls : zL) (st : List zV) (M : zM), k ls st M = some (o, M9) → zGo p l e R s m args below meth c Q D E nL lg M0 M9 nxt ls st M) (hbk : ∀ (t : Nat) (ls : zL) (st : List zV) (M : zM), bk t ls st M = some (o, M9) → zGo p l e R s m args below meth c Q D E nL lg M0 M9 t ls st M) {n : Fin 4} (h : zst E cf bk hh k pc (.aload_n n) v x ls st M = some (o, M9)) (hd : decode cc pc = .ok ((.aload_n n), len)) (hl : zlk zml own nL lg rt ini pc len nxt (.aload_n n) v x) : zGo p l e R s m args below meth c Q D E nL lg M0 M9 pc ls st M := by
  obtain ⟨hx, hb, hml, hown, hts, hG, hini⟩ := hF
  obtain ⟨rfl, rfl, rfl⟩ := hl
  obtain ⟨a, h1, h2⟩ := zlr_inv h
  obtain ⟨hm, hw⟩ := hk _ _ _ h2
  cases a with
  | none => exact ⟨hm, fun arr H locs g1 g2 g3 g4 g5 => lv_aload_nN hx hb hd rfl (g1.at h1) (hw arr H locs g1 g2 g3 g4 g5)⟩
  | some a => exact ⟨hm, fun arr H locs g1 g2 g3 g4 g5 => lv_aload_n hx hb hd rfl (g1.at h1) (hw arr H locs g1 g2 g3 g4 g5)⟩
theorem zs_aload_ok (hF : zFx p s m args meth c D E own cc nL ini) (hk : ∀ (ls : zL) (st : List zV) (M : zM), k ls st M = some (o, M9) → zGo p l e R s m args below meth c Q D E nL lg M0 M9 nxt ls st M) (hbk : ∀ (t : Nat) (ls : zL) (st : List zV) (M : zM), bk t ls st M = some (o, M9) → zGo p l e R s m args below meth c Q D E nL lg M0 M9 t ls st M) {n : Nat} (h : zst E cf bk hh k pc (.aload n) v x ls st M = some (o, M9)) (hd : decode cc pc = .ok ((.aload n), len)) (hl : zlk zml own nL lg rt ini pc len nxt (.aload n) v x) : zGo p l e R s m args below meth c Q D E nL lg M0 M9 pc ls st M := by
  obtain ⟨hx, hb, hml, hown, hts, hG, hini⟩ := hF
  obtain ⟨rfl, rfl, rfl⟩ := hl
  obtain ⟨a, h1, h2⟩ := zlr_inv h
  obtain ⟨hm, hw⟩ := hk _ _ _ h2
  cases a with
  | none => exact ⟨hm, fun arr H locs g1 g2 g3 g4 g5 => lv_aloadN hx hb hd (g1.at h1) (hw arr H locs g1 g2 g3 g4 g5)⟩
  | some a => exact ⟨hm, fun arr H locs g1 g2 g3 g4 g5 => lv_aload hx hb hd (g1.at h1) (hw arr H locs g1 g2 g3 g4 g5)⟩
theorem zs_lload_n_ok (hF : zFx p s m args meth c D E own cc nL ini) (hk : ∀ (ls : zL) (st : List zV) (M : zM), k ls st M = some (o, M9) → zGo p l e R s m args below meth c Q D E nL lg M0 M9 nxt ls st M) (hbk : ∀ (t : Nat) (ls : zL) (st : List zV) (M : zM), bk t ls st M = some (o, M9) → zGo p l e R s m args below meth c Q D E nL lg M0 M9 t ls st M) {n : Fin 4} (h : zst E cf bk hh k pc (.lload_n n) v x ls st M = some (o, M9)) (hd : decode cc pc = .ok ((.lload_n n), len)) (hl : zlk zml own nL lg rt ini pc len nxt (.lload_n n) v x) : zGo p l e R s m args below meth c Q D E nL lg M0 M9 pc ls st M := by
  obtain ⟨hx, hb, hml, hown, hts, hG, hini⟩ := hF
  obtain ⟨rfl, rfl, rfl⟩ := hl
  obtain ⟨a, h1, h2⟩ := zll_inv h
  obtain ⟨hm, hw⟩ := hk _ _ _ h2
  exact ⟨hm, fun arr H locs g1 g2 g3 g4 g5 => lv_lload_n hx hb hd rfl (g1.at h1) (hw arr H locs g1 g2 g3 g4 g5)⟩
theorem zs_istore_n_ok (hF : zFx p s m args meth c D E own cc nL ini) (hk : ∀ (ls : zL) (st : List zV) (M : zM), k ls st M = some (o, M9) → zGo p l e R s m args below meth c Q D E nL lg M0 M9 nxt ls st M) (hbk : ∀ (t : Nat) (ls : zL) (st : List zV) (M : zM), bk t ls st M = some (o, M9) → zGo p l e R s m args below meth c Q D E nL lg M0 M9 t ls st M) {n : Fin 4} (h : zst E cf bk hh k pc (.istore_n n) v x ls st M = some (o, M9)) (hd : decode cc pc = .ok ((.istore_n n), len)) (hl : zlk zml own nL lg rt ini pc len nxt (.istore_n n) v x) : zGo p l e R s m args below meth c Q D E nL lg M0 M9 pc ls st M := by
  obtain ⟨hx, hb, hml, hown, hts, hG, hini⟩ := hF
  obtain ⟨rfl, rfl, hn, rfl⟩ := hl
  obtain ⟨a, r, rfl, h1⟩ := zp1_inv h
  obtain ⟨h2, h3⟩ := zss_inv (lg := lg) h1
  obtain ⟨hm, hw⟩ := hk _ _ _ h3
  exact ⟨hm, fun arr H locs g1 g2 g3 g4 g5 => lv_istore_n hx hb hd rfl g1.1 hn rfl (fun ls9 hl9 => hw ls9 H locs (g1.store1 (w := zi a) hn rfl h2 hl9) g2 g3 g4 g5)⟩
theorem zs_istore_ok (hF : zFx p s m args meth c D E own cc nL ini) (hk : ∀ (ls : zL) (st : List zV) (M : zM), k ls st M = some (o, M9) → zGo p l e R s m args below meth c Q D E nL lg M0 M9 nxt ls st M) (hbk : ∀ (t : Nat) (ls : zL) (st : List zV) (M : zM), bk t ls st M = some (o, M9) → zGo p l e R s m args below meth c Q D E nL lg M0 M9 t ls st M) {n : Nat} (h : zst E cf bk hh k pc (.istore n) v x ls st M = some (o, M9)) (hd : decode cc pc = .ok ((.istore n), len)) (hl : zlk zml own nL lg rt ini pc len nxt (.istore n) v x) : zGo p l e R s m args below meth c Q D E nL lg M0 M9 pc ls st M := by
  obtain ⟨hx, hb, hml, hown, hts, hG, hini⟩ := hF
  obtain ⟨rfl, rfl, hn, rfl⟩ := hl
  obtain ⟨a, r, rfl, h1⟩ := zp1_inv h
  obtain ⟨h2, h3⟩ := zss_inv (lg := lg) h1
  obtain ⟨hm, hw⟩ := hk _ _ _ h3
  exact ⟨hm, fun arr H locs g1 g2 g3 g4 g5 => lv_istore hx hb hd g1.1 hn rfl (fun ls9 hl9 => hw ls9 H locs (g1.store1 (w := zi a) hn rfl h2 hl9) g2 g3 g4 g5)⟩
theorem zs_astore_n_ok (hF : zFx p s m args meth c D E own cc nL ini) (hk : ∀ (ls : zL) (st : List zV) (M : zM), k ls st M = some (o, M9) → zGo p l e R s m args below meth c Q D E nL lg M0 M9 nxt ls st M) (hbk : ∀ (t : Nat) (ls : zL) (st : List zV) (M : zM), bk t ls st M = some (o, M9) → zGo p l e R s m args below meth c Q D E nL lg M0 M9 t ls st M) {n : Fin 4} (h : zst E cf bk hh k pc (.astore_n n) v x ls st M = some (o, M9)) (hd : decode cc pc = .ok ((.astore_n n), len)) (hl : zlk zml own nL lg rt ini pc len nxt (.astore_n n) v x) : zGo p l e R s m args below meth c Q D E nL lg M0 M9 pc ls st M := by
  obtain ⟨hx, hb, hml, hown, hts, hG, hini⟩ := hF
  obtain ⟨rfl, rfl, hn, rfl⟩ := hl
  obtain ⟨a, r, rfl, h1⟩ := zpr_inv h
  obtain ⟨h2, h3⟩ := zss_inv (lg := lg) h1
  obtain ⟨hm, hw⟩ := hk _ _ _ h3
  cases a with
  | none => exact ⟨hm, fun arr H locs g1 g2 g3 g4 g5 => lv_astore_nN hx hb hd rfl g1.1 hn rfl (fun ls9 hl9 => hw ls9 H locs (g1.store1 (w := zr none) hn rfl h2 hl9) g2 g3 g4 g5)⟩
  | some a => exact ⟨hm, fun arr H locs g1 g2 g3 g4 g5 => lv_astore_n hx hb hd rfl g1.1 hn rfl (fun ls9 hl9 => hw ls9 H locs (g1.store1 (w := zr (some a)) hn rfl h2 hl9) g2 g3 g4 g5)⟩
theorem zs_astore_ok (hF : zFx p s m args meth c D E own cc nL ini) (hk : ∀ (ls : zL) (st : List zV) (M : zM), k ls st M = some (o, M9) → zGo p l e R s m args below meth c Q D E nL lg M0 M9 nxt ls st M) (hbk : ∀ (t : Nat) (ls : zL) (st : List zV) (M : zM), bk t ls st M = some (o, M9) → zGo p l e R s m args below meth c Q D E nL lg M0 M9 t ls st M) {n : Nat} (h : zst E cf bk hh k pc (.astore n) v x ls st M = some (o, M9)) (hd : decode cc pc = .ok ((.astore n), len)) (hl : zlk zml own nL lg rt ini pc len nxt (.astore n) v x) : zGo p l e R s m args below meth c Q D E nL lg M0 M9 pc ls st M := by
  obtain ⟨hx, hb, hml, hown, hts, hG, hini⟩ := hF
  obtain ⟨rfl, rfl, hn, rfl⟩ := hl
  obtain ⟨a, r, rfl, h1⟩ := zpr_inv h
  obtain ⟨h2, h3⟩ := zss_inv (lg := lg) h1
  obtain ⟨hm, hw⟩ := hk _ _ _ h3
  cases a with
  | none => exact ⟨hm, fun arr H locs g1 g2 g3 g4 g5 => lv_astoreN hx hb hd g1.1 hn rfl (fun ls9 hl9 => hw ls9 H locs (g1.store1 (w := zr none) hn rfl h2 hl9) g2 g3 g4 g5)⟩
  | some a => exact ⟨hm, fun arr H locs g1 g2 g3 g4 g5 => lv_astore hx hb hd g1.1 hn rfl (fun ls9 hl9 => hw ls9 H locs (g1.store1 (w := zr (some a)) hn rfl h2 hl9) g2 g3 g4 g5)⟩
theorem zs_lstore_n_ok (hF : zFx p s m args meth c D E own cc nL ini) (hk : ∀ (ls : zL) (st : List zV) (M : zM), k ls st M = some (o, M9) → zGo p l e R s m args below meth c Q D E nL lg M0 M9 nxt ls st M) (hbk : ∀ (t : Nat) (ls : zL) (st : List zV) (M : zM), bk t ls st M = some (o, M9) → zGo p l e R s m args below meth c Q D E nL lg M0 M9 t ls st M) {n : Fin 4} (h : zst E cf bk hh k pc (.lstore_n n) v x ls st M = some (o, M9)) (hd : decode cc pc = .ok ((.lstore_n n), len)) (hl : zlk zml own nL lg rt ini pc len nxt (.lstore_n n) v x) : zGo p l e R s m args below meth c Q D E nL lg M0 M9 pc ls st M := by
  obtain ⟨hx, hb, hml, hown, hts, hG, hini⟩ := hF
  obtain ⟨rfl, rfl, hn, rfl, rfl⟩ := hl
  obtain ⟨a, r, rfl, h1⟩ := zpl_inv h
  obtain ⟨h2, h3⟩ := zss_inv (lg := true) h1
  obtain ⟨hm, hw⟩ := hk _ _ _ h3
  exact ⟨hm, fun arr H locs g1 g2 g3 g4 g5 => lv_lstore_n hx hb hd rfl g1.1 hn rfl (fun ls9 hl9 => hw ls9 H locs (g1.store2 hn (h2 rfl) hl9) g2 g3 g4 g5)⟩
theorem zs_iinc_ok (hF : zFx p s m args meth c D E own cc nL ini) (hk : ∀ (ls : zL) (st : List zV) (M : zM), k ls st M = some (o, M9) → zGo p l e R s m args below meth c Q D E nL lg M0 M9 nxt ls st M) (hbk : ∀ (t : Nat) (ls : zL) (st : List zV) (M : zM), bk t ls st M = some (o, M9) → zGo p l e R s m args below meth c Q D E nL lg M0 M9 t ls st M) {n : Nat} {j : Int} (h : zst E cf bk hh k pc (.iinc n j) v x ls st M = some (o, M9)) (hd : decode cc pc = .ok ((.iinc n j), len)) (hl : zlk zml own nL lg rt ini pc len nxt (.iinc n j) v x) : zGo p l e R s m args below meth c Q D E nL lg M0 M9 pc ls st M := by
  obtain ⟨hx, hb, hml, hown, hts, hG, hini⟩ := hF
  obtain ⟨rfl, rfl, hn, rfl, rfl⟩ := hl
  obtain ⟨a, h1, h2⟩ := zli_inv h
  obtain ⟨h3, h4⟩ := zss_inv (lg := lg) h2
  obtain ⟨hm, hw⟩ := hk _ _ _ h4
  refine ⟨hm, fun arr H locs g1 g2 g3 g4 g5 => ?_⟩
  obtain ⟨j9, hj9⟩ := List.getElem?_of_mem (zas_mem.mpr ⟨zi a, h1, rfl⟩ : (n, Value.int a) ∈ zas ls)
  exact lv_iinc hx hb hd g1.1 hj9 rfl hn rfl (fun ls9 hl9 => hw ls9 H locs (g1.store1 (w := zi (a + Int32.ofInt j)) hn rfl h3 hl9) g2 g3 g4 g5)
theorem zs_iconst_ok (hF : zFx p s m args meth c D E own cc nL ini) (hk : ∀ (ls : zL) (st : List zV) (M : zM), k ls st M = some (o, M9) → zGo p l e R s m args below meth c Q D E nL lg M0 M9 nxt ls st M) (hbk : ∀ (t : Nat) (ls : zL) (st : List zV) (M : zM), bk t ls st M = some (o, M9) → zGo p l e R s m args below meth c Q D E nL lg M0 M9 t ls st M) {n : Int} (h : zst E cf bk hh k pc (.iconst n) v x ls st M = some (o, M9)) (hd : decode cc pc = .ok ((.iconst n), len)) (hl : zlk zml own nL lg rt ini pc len nxt (.iconst n) v x) : zGo p l e R s m args below meth c Q D E nL lg M0 M9 pc ls st M := by
  obtain ⟨hx, hb, hml, hown, hts, hG, hini⟩ := hF
  obtain ⟨rfl, rfl, rfl⟩ := hl
  obtain ⟨hm, hw⟩ := hk _ _ _ h
  exact ⟨hm, fun arr H locs g1 g2 g3 g4 g5 => lv_iconst hx hb hd rfl (hw arr H locs g1 g2 g3 g4 g5)⟩
theorem zs_bipush_ok (hF : zFx p s m args meth c D E own cc nL ini) (hk : ∀ (ls : zL) (st : List zV) (M : zM), k ls st M = some (o, M9) → zGo p l e R s m args below meth c Q D E nL lg M0 M9 nxt ls st M) (hbk : ∀ (t : Nat) (ls : zL) (st : List zV) (M : zM), bk t ls st M = some (o, M9) → zGo p l e R s m args below meth c Q D E nL lg M0 M9 t ls st M) {n : Int} (h : zst E cf bk hh k pc (.bipush n) v x ls st M = some (o, M9)) (hd : decode cc pc = .ok ((.bipush n), len)) (hl : zlk zml own nL lg rt ini pc len nxt (.bipush n) v x) : zGo p l e R s m args below meth c Q D E nL lg M0 M9 pc ls st M := by
  obtain ⟨hx, hb, hml, hown, hts, hG, hini⟩ := hF
  obtain ⟨rfl, rfl, rfl⟩ := hl
  obtain ⟨hm, hw⟩ := hk _ _ _ h
  exact ⟨hm, fun arr H locs g1 g2 g3 g4 g5 => lv_bipush hx hb hd rfl (hw arr H locs g1 g2 g3 g4 g5)⟩
theorem zs_sipush_ok (hF : zFx p s m args meth c D E own cc nL ini) (hk : ∀ (ls : zL) (st : List zV) (M : zM), k ls st M = some (o, M9) → zGo p l e R s m args below meth c Q D E nL lg M0 M9 nxt ls st M) (hbk : ∀ (t : Nat) (ls : zL) (st : List zV) (M : zM), bk t ls st M = some (o, M9) → zGo p l e R s m args below meth c Q D E nL lg M0 M9 t ls st M) {n : Int} (h : zst E cf bk hh k pc (.sipush n) v x ls st M = some (o, M9)) (hd : decode cc pc = .ok ((.sipush n), len)) (hl : zlk zml own nL lg rt ini pc len nxt (.sipush n) v x) : zGo p l e R s m args below meth c Q D E nL lg M0 M9 pc ls st M := by
  obtain ⟨hx, hb, hml, hown, hts, hG, hini⟩ := hF
  obtain ⟨rfl, rfl, rfl⟩ := hl
  obtain ⟨hm, hw⟩ := hk _ _ _ h
  exact ⟨hm, fun arr H locs g1 g2 g3 g4 g5 => lv_sipush hx hb hd rfl (hw arr H locs g1 g2 g3 g4 g5)⟩
theorem zs_lconst_ok (hF : zFx p s m args meth c D E own cc nL ini) (hk : ∀ (ls : zL) (st : List zV) (M : zM), k ls st M = some (o, M9) → zGo p l e R s m args below meth c Q D E nL lg M0 M9 nxt ls st M) (hbk : ∀ (t : Nat) (ls : zL) (st : List zV) (M : zM), bk t ls st M = some (o, M9) → zGo p l e R s m args below meth c Q D E nL lg M0 M9 t ls st M) {n : Fin 2} (h : zst E cf bk hh k pc (.lconst n) v x ls st M = some (o, M9)) (hd : decode cc pc = .ok ((.lconst n), len)) (hl : zlk zml own nL lg rt ini pc len nxt (.lconst n) v x) : zGo p l e R s m args below meth c Q D E nL lg M0 M9 pc ls st M := by
  obtain ⟨hx, hb, hml, hown, hts, hG, hini⟩ := hF
  obtain ⟨rfl, rfl, rfl⟩ := hl
  obtain ⟨hm, hw⟩ := hk _ _ _ h
  exact ⟨hm, fun arr H locs g1 g2 g3 g4 g5 => lv_lconst hx hb hd rfl (hw arr H locs g1 g2 g3 g4 g5)⟩
theorem zs_aconst_null_ok (hF : zFx p s m args meth c D E own cc nL ini) (hk : ∀ (ls : zL) (st : List zV) (M : zM), k ls st M = some (o, M9) → zGo p l e R s m args below meth c Q D E nL lg M0 M9 nxt ls st M) (hbk : ∀ (t : Nat) (ls : zL) (st : List zV) (M : zM), bk t ls st M = some (o, M9) → zGo p l e R s m args below meth c Q D E nL lg M0 M9 t ls st M)  (h : zst E cf bk hh k pc .aconst_null v x ls st M = some (o, M9)) (hd : decode cc pc = .ok (.aconst_null, len)) (hl : zlk zml own nL lg rt ini pc len nxt .aconst_null v x) : zGo p l e R s m args below meth c Q D E nL lg M0 M9 pc ls st M := by
  obtain ⟨hx, hb, hml, hown, hts, hG, hini⟩ := hF
  obtain ⟨rfl, rfl⟩ := hl
  obtain ⟨hm, hw⟩ := hk _ _ _ h
  exact ⟨hm, fun arr H locs g1 g2 g3 g4 g5 => lv_null hx hb hd (hw arr H locs g1 g2 g3 g4 g5)⟩
theorem zs_ldc_ok (hF : zFx p s m args meth c D E own cc nL ini) (hk : ∀ (ls : zL) (st : List zV) (M : zM), k ls st M = some (o, M9) → zGo p l e R s m args below meth c Q D E nL lg M0 M9 nxt ls st M) (hbk : ∀ (t : Nat) (ls : zL) (st : List zV) (M : zM), bk t ls st M = some (o, M9) → zGo p l e R s m args below meth c Q D E nL lg M0 M9 t ls st M) {n : Nat} (h : zst E cf bk hh k pc (.ldc n) v x ls st M = some (o, M9)) (hd : decode cc pc = .ok ((.ldc n), len)) (hl : zlk zml own nL lg rt ini pc len nxt (.ldc n) v x) : zGo p l e R s m args below meth c Q D E nL lg M0 M9 pc ls st M := by
  obtain ⟨hx, hb, hml, hown, hts, hG, hini⟩ := hF
  obtain ⟨rfl, rfl, h1⟩ := hl
  obtain ⟨-, -, -, -, hGs, -⟩ := hG
  rcases h1 with ⟨rfl, h1⟩ | ⟨tx, j, rfl, h1⟩
  · obtain ⟨hm, hw⟩ := hk _ _ _ h
    exact ⟨hm, fun arr H locs g1 g2 g3 g4 g5 => lv_ldc hx hb hown (hts _ h1) hd (hw arr H locs g1 g2 g3 g4 g5)⟩
  · obtain ⟨hm, hw⟩ := hk _ _ _ h
    exact ⟨hm, fun arr H locs g1 g2 g3 g4 g5 => va_ldcS hx hb hown (hGs _ h1) hd (hw arr H locs g1 g2 g3 g4 g5)⟩
theorem zs_ldc_w_ok (hF : zFx p s m args meth c D E own cc nL ini) (hk : ∀ (ls : zL) (st : List zV) (M : zM), k ls st M = some (o, M9) → zGo p l e R s m args below meth c Q D E nL lg M0 M9 nxt ls st M) (hbk : ∀ (t : Nat) (ls : zL) (st : List zV) (M : zM), bk t ls st M = some (o, M9) → zGo p l e R s m args below meth c Q D E nL lg M0 M9 t ls st M) {n : Nat} (h : zst E cf bk hh k pc (.ldc_w n) v x ls st M = some (o, M9)) (hd : decode cc pc = .ok ((.ldc_w n), len)) (hl : zlk zml own nL lg rt ini pc len nxt (.ldc_w n) v x) : zGo p l e R s m args below meth c Q D E nL lg M0 M9 pc ls st M := by
  obtain ⟨hx, hb, hml, hown, hts, hG, hini⟩ := hF
  obtain ⟨rfl, rfl, tx, j, rfl, h1⟩ := hl
  obtain ⟨-, -, -, -, hGs, -⟩ := hG
  obtain ⟨hm, hw⟩ := hk _ _ _ h
  refine ⟨hm, fun arr H locs g1 g2 g3 g4 g5 T hT X => ?_⟩
  obtain ⟨t, a1, b1⟩ := (hw arr H locs g1 g2 g3 g4 g5) T hT X
  exact ⟨t, X.ldcStringW hx hown (text := tx) (hGs _ h1).1 (hGs _ h1).2 (g := F0 m pc arr (st.map zvv)) rfl (by rw [hb]; exact hd) t a1, b1⟩
theorem zs_ldc2_w_ok (hF : zFx p s m args meth c D E own cc nL ini) (hk : ∀ (ls : zL) (st : List zV) (M : zM), k ls st M = some (o, M9) → zGo p l e R s m args below meth c Q D E nL lg M0 M9 nxt ls st M) (hbk : ∀ (t : Nat) (ls : zL) (st : List zV) (M : zM), bk t ls st M = some (o, M9) → zGo p l e R s m args below meth c Q D E nL lg M0 M9 t ls st M) {n : Nat} (h : zst E cf bk hh k pc (.ldc2_w n) v x ls st M = some (o, M9)) (hd : decode cc pc = .ok ((.ldc2_w n), len)) (hl : zlk zml own nL lg rt ini pc len nxt (.ldc2_w n) v x) : zGo p l e R s m args below meth c Q D E nL lg M0 M9 pc ls st M := by
  obtain ⟨hx, hb, hml, hown, hts, hG, hini⟩ := hF
  obtain ⟨rfl, rfl, j, rfl, h1⟩ := hl
  obtain ⟨hm, hw⟩ := hk _ _ _ h
  exact ⟨hm, fun arr H locs g1 g2 g3 g4 g5 => lv_ldc2 hx hb hown (hts _ h1) hd (hw arr H locs g1 g2 g3 g4 g5)⟩
theorem zs_dup_ok (hF : zFx p s m args meth c D E own cc nL ini) (hk : ∀ (ls : zL) (st : List zV) (M : zM), k ls st M = some (o, M9) → zGo p l e R s m args below meth c Q D E nL lg M0 M9 nxt ls st M) (hbk : ∀ (t : Nat) (ls : zL) (st : List zV) (M : zM), bk t ls st M = some (o, M9) → zGo p l e R s m args below meth c Q D E nL lg M0 M9 t ls st M)  (h : zst E cf bk hh k pc .dup v x ls st M = some (o, M9)) (hd : decode cc pc = .ok (.dup, len)) (hl : zlk zml own nL lg rt ini pc len nxt .dup v x) : zGo p l e R s m args below meth c Q D E nL lg M0 M9 pc ls st M := by
  obtain ⟨hx, hb, hml, hown, hts, hG, hini⟩ := hF
  obtain ⟨rfl, rfl⟩ := hl
  have h0 : zpc st (fun a r => k ls (a :: a :: r) M) = some (o, M9) := h
  obtain ⟨a, r, rfl, hc, h1⟩ := zpc_inv h0
  obtain ⟨hm, hw⟩ := hk _ _ _ h1
  exact ⟨hm, fun arr H locs g1 g2 g3 g4 g5 => lv_dup hx hb hd hc (hw arr H locs g1 g2 g3 g4 g5)⟩
theorem zs_dup2_ok (hF : zFx p s m args meth c D E own cc nL ini) (hk : ∀ (ls : zL) (st : List zV) (M : zM), k ls st M = some (o, M9) → zGo p l e R s m args below meth c Q D E nL lg M0 M9 nxt ls st M) (hbk : ∀ (t : Nat) (ls : zL) (st : List zV) (M : zM), bk t ls st M = some (o, M9) → zGo p l e R s m args below meth c Q D E nL lg M0 M9 t ls st M)  (h : zst E cf bk hh k pc .dup2 v x ls st M = some (o, M9)) (hd : decode cc pc = .ok (.dup2, len)) (hl : zlk zml own nL lg rt ini pc len nxt .dup2 v x) : zGo p l e R s m args below meth c Q D E nL lg M0 M9 pc ls st M := by
  obtain ⟨hx, hb, hml, hown, hts, hG, hini⟩ := hF
  obtain ⟨rfl, rfl⟩ := hl
  have h0 : zpc st (fun a r => zpc r fun b r => k ls (a :: b :: a :: b :: r) M) = some (o, M9) := h
  obtain ⟨a, r, rfl, hc, h1⟩ := zpc_inv h0
  obtain ⟨b, r2, rfl, hc2, h2⟩ := zpc_inv h1
  obtain ⟨hm, hw⟩ := hk _ _ _ h2
  exact ⟨hm, fun arr H locs g1 g2 g3 g4 g5 => lv_dup2_11 hx hb hd hc hc2 (hw arr H locs g1 g2 g3 g4 g5)⟩
theorem zs_pop_ok (hF : zFx p s m args meth c D E own cc nL ini) (hk : ∀ (ls : zL) (st : List zV) (M : zM), k ls st M = some (o, M9) → zGo p l e R s m args below meth c Q D E nL lg M0 M9 nxt ls st M) (hbk : ∀ (t : Nat) (ls : zL) (st : List zV) (M : zM), bk t ls st M = some (o, M9) → zGo p l e R s m args below meth c Q D E nL lg M0 M9 t ls st M)  (h : zst E cf bk hh k pc .pop v x ls st M = some (o, M9)) (hd : decode cc pc = .ok (.pop, len)) (hl : zlk zml own nL lg rt ini pc len nxt .pop v x) : zGo p l e R s m args below meth c Q D E nL lg M0 M9 pc ls st M := by
  obtain ⟨hx, hb, hml, hown, hts, hG, hini⟩ := hF
  obtain ⟨rfl, rfl⟩ := hl
  have h0 : zpc st (fun _ r => k ls r M) = some (o, M9) := h
  obtain ⟨a, r, rfl, hc, h1⟩ := zpc_inv h0
  obtain ⟨hm, hw⟩ := hk _ _ _ h1
  exact ⟨hm, fun arr H locs g1 g2 g3 g4 g5 => lv_pop hx hb hd hc (hw arr H locs g1 g2 g3 g4 g5)⟩
theorem zs_goto_ok (hF : zFx p s m args meth c D E own cc nL ini) (hk : ∀ (ls : zL) (st : List zV) (M : zM), k ls st M = some (o, M9) → zGo p l e R s m args below meth c Q D E nL lg M0 M9 nxt ls st M) (hbk : ∀ (t : Nat) (ls : zL) (st : List zV) (M : zM), bk t ls st M = some (o, M9) → zGo p l e R s m args below meth c Q D E nL lg M0 M9 t ls st M) {off : Int} (h : zst E cf bk hh k pc (.goto off) v x ls st M = some (o, M9)) (hd : decode cc pc = .ok ((.goto off), len)) (hl : zlk zml own nL lg rt ini pc len nxt (.goto off) v x) : zGo p l e R s m args below meth c Q D E nL lg M0 M9 pc ls st M := by
  obtain ⟨hx, hb, hml, hown, hts, hG, hini⟩ := hF
  obtain ⟨rfl, t, rfl, ht⟩ := hl
  obtain ⟨hm, hw⟩ := hbk _ _ _ _ h
  exact ⟨hm, fun arr H locs g1 g2 g3 g4 g5 => lv_goto hx hb hd ht (hw arr H locs g1 g2 g3 g4 g5)⟩
theorem zs_if_icmp_eq_ok (hF : zFx p s m args meth c D E own cc nL ini) (hk : ∀ (ls : zL) (st : List zV) (M : zM), k ls st M = some (o, M9) → zGo p l e R s m args below meth c Q D E nL lg M0 M9 nxt ls st M) (hbk : ∀ (t : Nat) (ls : zL) (st : List zV) (M : zM), bk t ls st M = some (o, M9) → zGo p l e R s m args below meth c Q D E nL lg M0 M9 t ls st M) {off : Int} (h : zst E cf bk hh k pc (.if_icmp .eq off) v x ls st M = some (o, M9)) (hd : decode cc pc = .ok ((.if_icmp .eq off), len)) (hl : zlk zml own nL lg rt ini pc len nxt (.if_icmp .eq off) v x) : zGo p l e R s m args below meth c Q D E nL lg M0 M9 pc ls st M := by
  obtain ⟨hx, hb, hml, hown, hts, hG, hini⟩ := hF
  obtain ⟨rfl, rfl, t, rfl, ht⟩ := hl
  obtain ⟨b, a, r, rfl, h1⟩ := zp2_inv h
  by_cases hc : a = b
  · rw [if_pos hc] at h1
    obtain ⟨hm, hw⟩ := hbk _ _ _ _ h1
    exact ⟨hm, fun arr H locs g1 g2 g3 g4 g5 => lv_icmp_eq hx hb hd ht (fun _ => (hw arr H locs g1 g2 g3 g4 g5)) (fun hn => absurd hc hn)⟩
  · rw [if_neg hc] at h1
    obtain ⟨hm, hw⟩ := hk _ _ _ h1
    exact ⟨hm, fun arr H locs g1 g2 g3 g4 g5 => lv_icmp_eq hx hb hd ht (fun hn => absurd hn hc) (fun _ => (hw arr H locs g1 g2 g3 g4 g5))⟩
theorem zs_if_icmp_ne_ok (hF : zFx p s m args meth c D E own cc nL ini) (hk : ∀ (ls : zL) (st : List zV) (M : zM), k ls st M = some (o, M9) → zGo p l e R s m args below meth c Q D E nL lg M0 M9 nxt ls st M) (hbk : ∀ (t : Nat) (ls : zL) (st : List zV) (M : zM), bk t ls st M = some (o, M9) → zGo p l e R s m args below meth c Q D E nL lg M0 M9 t ls st M) {off : Int} (h : zst E cf bk hh k pc (.if_icmp .ne off) v x ls st M = some (o, M9)) (hd : decode cc pc = .ok ((.if_icmp .ne off), len)) (hl : zlk zml own nL lg rt ini pc len nxt (.if_icmp .ne off) v x) : zGo p l e R s m args below meth c Q D E nL lg M0 M9 pc ls st M := by
  obtain ⟨hx, hb, hml, hown, hts, hG, hini⟩ := hF
  obtain ⟨rfl, rfl, t, rfl, ht⟩ := hl
  obtain ⟨b, a, r, rfl, h1⟩ := zp2_inv h
  by_cases hc : a = b
  · rw [if_pos hc] at h1
    obtain ⟨hm, hw⟩ := hk _ _ _ h1
    exact ⟨hm, fun arr H locs g1 g2 g3 g4 g5 => lv_icmp_ne hx hb hd ht (fun hn => absurd hc hn) (fun _ => (hw arr H locs g1 g2 g3 g4 g5))⟩
  · rw [if_neg hc] at h1
    obtain ⟨hm, hw⟩ := hbk _ _ _ _ h1
    exact ⟨hm, fun arr H locs g1 g2 g3 g4 g5 => lv_icmp_ne hx hb hd ht (fun _ => (hw arr H locs g1 g2 g3 g4 g5)) (fun hn => absurd hn hc)⟩
theorem zs_if_icmp_lt_ok (hF : zFx p s m args meth c D E own cc nL ini) (hk : ∀ (ls : zL) (st : List zV) (M : zM), k ls st M = some (o, M9) → zGo p l e R s m args below meth c Q D E nL lg M0 M9 nxt ls st M) (hbk : ∀ (t : Nat) (ls : zL) (st : List zV) (M : zM), bk t ls st M = some (o, M9) → zGo p l e R s m args below meth c Q D E nL lg M0 M9 t ls st M) {off : Int} (h : zst E cf bk hh k pc (.if_icmp .lt off) v x ls st M = some (o, M9)) (hd : decode cc pc = .ok ((.if_icmp .lt off), len)) (hl : zlk zml own nL lg rt ini pc len nxt (.if_icmp .lt off) v x) : zGo p l e R s m args below meth c Q D E nL lg M0 M9 pc ls st M := by
  obtain ⟨hx, hb, hml, hown, hts, hG, hini⟩ := hF
  obtain ⟨rfl, rfl, t, rfl, ht⟩ := hl
  obtain ⟨b, a, r, rfl, h1⟩ := zp2_inv h
  by_cases hc : a < b
  · rw [if_pos hc] at h1
    obtain ⟨hm, hw⟩ := hbk _ _ _ _ h1
    exact ⟨hm, fun arr H locs g1 g2 g3 g4 g5 => lv_icmp_lt hx hb hd ht (fun _ => (hw arr H locs g1 g2 g3 g4 g5)) (fun hn => absurd hc hn)⟩
  · rw [if_neg hc] at h1
    obtain ⟨hm, hw⟩ := hk _ _ _ h1
    exact ⟨hm, fun arr H locs g1 g2 g3 g4 g5 => lv_icmp_lt hx hb hd ht (fun hn => absurd hn hc) (fun _ => (hw arr H locs g1 g2 g3 g4 g5))⟩
theorem zs_if_icmp_ge_ok (hF : zFx p s m args meth c D E own cc nL ini) (hk : ∀ (ls : zL) (st : List zV) (M : zM), k ls st M = some (o, M9) → zGo p l e R s m args below meth c Q D E nL lg M0 M9 nxt ls st M) (hbk : ∀ (t : Nat) (ls : zL) (st : List zV) (M : zM), bk t ls st M = some (o, M9) → zGo p l e R s m args below meth c Q D E nL lg M0 M9 t ls st M) {off : Int} (h : zst E cf bk hh k pc (.if_icmp .ge off) v x ls st M = some (o, M9)) (hd : decode cc pc = .ok ((.if_icmp .ge off), len)) (hl : zlk zml own nL lg rt ini pc len nxt (.if_icmp .ge off) v x) : zGo p l e R s m args below meth c Q D E nL lg M0 M9 pc ls st M := by
  obtain ⟨hx, hb, hml, hown, hts, hG, hini⟩ := hF
  obtain ⟨rfl, rfl, t, rfl, ht⟩ := hl
  obtain ⟨b, a, r, rfl, h1⟩ := zp2_inv h
  by_cases hc : b ≤ a
  · rw [if_pos hc] at h1
    obtain ⟨hm, hw⟩ := hbk _ _ _ _ h1
    exact ⟨hm, fun arr H locs g1 g2 g3 g4 g5 => lv_icmp_ge hx hb hd ht (fun _ => (hw arr H locs g1 g2 g3 g4 g5)) (fun hn => absurd hc hn)⟩
  · rw [if_neg hc] at h1
    obtain ⟨hm, hw⟩ := hk _ _ _ h1
    exact ⟨hm, fun arr H locs g1 g2 g3 g4 g5 => lv_icmp_ge hx hb hd ht (fun hn => absurd hn hc) (fun _ => (hw arr H locs g1 g2 g3 g4 g5))⟩
theorem zs_if_icmp_gt_ok (hF : zFx p s m args meth c D E own cc nL ini) (hk : ∀ (ls : zL) (st : List zV) (M : zM), k ls st M = some (o, M9) → zGo p l e R s m args below meth c Q D E nL lg M0 M9 nxt ls st M) (hbk : ∀ (t : Nat) (ls : zL) (st : List zV) (M : zM), bk t ls st M = some (o, M9) → zGo p l e R s m args below meth c Q D E nL lg M0 M9 t ls st M) {off : Int} (h : zst E cf bk hh k pc (.if_icmp .gt off) v x ls st M = some (o, M9)) (hd : decode cc pc = .ok ((.if_icmp .gt off), len)) (hl : zlk zml own nL lg rt ini pc len nxt (.if_icmp .gt off) v x) : zGo p l e R s m args below meth c Q D E nL lg M0 M9 pc ls st M := by
  obtain ⟨hx, hb, hml, hown, hts, hG, hini⟩ := hF
  obtain ⟨rfl, rfl, t, rfl, ht⟩ := hl
  obtain ⟨b, a, r, rfl, h1⟩ := zp2_inv h
  by_cases hc : b < a
  · rw [if_pos hc] at h1
    obtain ⟨hm, hw⟩ := hbk _ _ _ _ h1
    exact ⟨hm, fun arr H locs g1 g2 g3 g4 g5 => lv_icmp_gt hx hb hd ht (fun _ => (hw arr H locs g1 g2 g3 g4 g5)) (fun hn => absurd hc hn)⟩
  · rw [if_neg hc] at h1
    obtain ⟨hm, hw⟩ := hk _ _ _ h1
    exact ⟨hm, fun arr H locs g1 g2 g3 g4 g5 => lv_icmp_gt hx hb hd ht (fun hn => absurd hn hc) (fun _ => (hw arr H locs g1 g2 g3 g4 g5))⟩
theorem zs_if_icmp_le_ok (hF : zFx p s m args meth c D E own cc nL ini) (hk : ∀ (ls : zL) (st : List zV) (M : zM), k ls st M = some (o, M9) → zGo p l e R s m args below meth c Q D E nL lg M0 M9 nxt ls st M) (hbk : ∀ (t : Nat) (ls : zL) (st : List zV) (M : zM), bk t ls st M = some (o, M9) → zGo p l e R s m args below meth c Q D E nL lg M0 M9 t ls st M) {off : Int} (h : zst E cf bk hh k pc (.if_icmp .le off) v x ls st M = some (o, M9)) (hd : decode cc pc = .ok ((.if_icmp .le off), len)) (hl : zlk zml own nL lg rt ini pc len nxt (.if_icmp .le off) v x) : zGo p l e R s m args below meth c Q D E nL lg M0 M9 pc ls st M := by
  obtain ⟨hx, hb, hml, hown, hts, hG, hini⟩ := hF
  obtain ⟨rfl, rfl, t, rfl, ht⟩ := hl
  obtain ⟨b, a, r, rfl, h1⟩ := zp2_inv h
  by_cases hc : a ≤ b
  · rw [if_pos hc] at h1
    obtain ⟨hm, hw⟩ := hbk _ _ _ _ h1
    exact ⟨hm, fun arr H locs g1 g2 g3 g4 g5 => lv_icmp_le hx hb hd ht (fun _ => (hw arr H locs g1 g2 g3 g4 g5)) (fun hn => absurd hc hn)⟩
  · rw [if_neg hc] at h1
    obtain ⟨hm, hw⟩ := hk _ _ _ h1
    exact ⟨hm, fun arr H locs g1 g2 g3 g4 g5 => lv_icmp_le hx hb hd ht (fun hn => absurd hn hc) (fun _ => (hw arr H locs g1 g2 g3 g4 g5))⟩
theorem zs_ifCond_eq_ok (hF : zFx p s m args meth c D E own cc nL ini) (hk : ∀ (ls : zL) (st : List zV) (M : zM), k ls st M = some (o, M9) → zGo p l e R s m args below meth c Q D E nL lg M0 M9 nxt ls st M) (hbk : ∀ (t : Nat) (ls : zL) (st : List zV) (M : zM), bk t ls st M = some (o, M9) → zGo p l e R s m args below meth c Q D E nL lg M0 M9 t ls st M) {off : Int} (h : zst E cf bk hh k pc (.ifCond .eq off) v x ls st M = some (o, M9)) (hd : decode cc pc = .ok ((.ifCond .eq off), len)) (hl : zlk zml own nL lg rt ini pc len nxt (.ifCond .eq off) v x) : zGo p l e R s m args below meth c Q D E nL lg M0 M9 pc ls st M := by
  obtain ⟨hx, hb, hml, hown, hts, hG, hini⟩ := hF
  obtain ⟨rfl, rfl, t, rfl, ht⟩ := hl
  obtain ⟨a, r, rfl, h1⟩ := zp1_inv h
  by_cases hc : a = 0
  · rw [if_pos hc] at h1
    obtain ⟨hm, hw⟩ := hbk _ _ _ _ h1
    exact ⟨hm, fun arr H locs g1 g2 g3 g4 g5 => lv_if_eq hx hb hd ht (fun _ => (hw arr H locs g1 g2 g3 g4 g5)) (fun hn => absurd hc hn)⟩
  · rw [if_neg hc] at h1
    obtain ⟨hm, hw⟩ := hk _ _ _ h1
    exact ⟨hm, fun arr H locs g1 g2 g3 g4 g5 => lv_if_eq hx hb hd ht (fun hn => absurd hn hc) (fun _ => (hw arr H locs g1 g2 g3 g4 g5))⟩
theorem zs_ifCond_ne_ok (hF : zFx p s m args meth c D E own cc nL ini) (hk : ∀ (ls : zL) (st : List zV) (M : zM), k ls st M = some (o, M9) → zGo p l e R s m args below meth c Q D E nL lg M0 M9 nxt ls st M) (hbk : ∀ (t : Nat) (ls : zL) (st : List zV) (M : zM), bk t ls st M = some (o, M9) → zGo p l e R s m args below meth c Q D E nL lg M0 M9 t ls st M) {off : Int} (h : zst E cf bk hh k pc (.ifCond .ne off) v x ls st M = some (o, M9)) (hd : decode cc pc = .ok ((.ifCond .ne off), len)) (hl : zlk zml own nL lg rt ini pc len nxt (.ifCond .ne off) v x) : zGo p l e R s m args below meth c Q D E nL lg M0 M9 pc ls st M := by
  obtain ⟨hx, hb, hml, hown, hts, hG, hini⟩ := hF
  obtain ⟨rfl, rfl, t, rfl, ht⟩ := hl
  obtain ⟨a, r, rfl, h1⟩ := zp1_inv h
  by_cases hc : a = 0
  · rw [if_pos hc] at h1
    obtain ⟨hm, hw⟩ := hk _ _ _ h1
    exact ⟨hm, fun arr H locs g1 g2 g3 g4 g5 => lv_if_ne hx hb hd ht (fun hn => absurd hc hn) (fun _ => (hw arr H locs g1 g2 g3 g4 g5))⟩
  · rw [if_neg hc] at h1
    obtain ⟨hm, hw⟩ := hbk _ _ _ _ h1
    exact ⟨hm, fun arr H locs g1 g2 g3 g4 g5 => lv_if_ne hx hb hd ht (fun _ => (hw arr H locs g1 g2 g3 g4 g5)) (fun hn => absurd hn hc)⟩
theorem zs_ifCond_lt_ok (hF : zFx p s m args meth c D E own cc nL ini) (hk : ∀ (ls : zL) (st : List zV) (M : zM), k ls st M = some (o, M9) → zGo p l e R s m args below meth c Q D E nL lg M0 M9 nxt ls st M) (hbk : ∀ (t : Nat) (ls : zL) (st : List zV) (M : zM), bk t ls st M = some (o, M9) → zGo p l e R s m args below meth c Q D E nL lg M0 M9 t ls st M) {off : Int} (h : zst E cf bk hh k pc (.ifCond .lt off) v x ls st M = some (o, M9)) (hd : decode cc pc = .ok ((.ifCond .lt off), len)) (hl : zlk zml own nL lg rt ini pc len nxt (.ifCond .lt off) v x) : zGo p l e R s m args below meth c Q D E nL lg M0 M9 pc ls st M := by
  obtain ⟨hx, hb, hml, hown, hts, hG, hini⟩ := hF
  obtain ⟨rfl, rfl, t, rfl, ht⟩ := hl
  obtain ⟨a, r, rfl, h1⟩ := zp1_inv h
  by_cases hc : a < 0
  · rw [if_pos hc] at h1
    obtain ⟨hm, hw⟩ := hbk _ _ _ _ h1
    exact ⟨hm, fun arr H locs g1 g2 g3 g4 g5 => lv_if_lt hx hb hd ht (fun _ => (hw arr H locs g1 g2 g3 g4 g5)) (fun hn => absurd hc hn)⟩
  · rw [if_neg hc] at h1
    obtain ⟨hm, hw⟩ := hk _ _ _ h1
    exact ⟨hm, fun arr H locs g1 g2 g3 g4 g5 => lv_if_lt hx hb hd ht (fun hn => absurd hn hc) (fun _ => (hw arr H locs g1 g2 g3 g4 g5))⟩
theorem zs_ifCond_ge_ok (hF : zFx p s m args meth c D E own cc nL ini) (hk : ∀ (ls : zL) (st : List zV) (M : zM), k ls st M = some (o, M9) → zGo p l e R s m args below meth c Q D E nL lg M0 M9 nxt ls st M) (hbk : ∀ (t : Nat) (ls : zL) (st : List zV) (M : zM), bk t ls st M = some (o, M9) → zGo p l e R s m args below meth c Q D E nL lg M0 M9 t ls st M) {off : Int} (h : zst E cf bk hh k pc (.ifCond .ge off) v x ls st M = some (o, M9)) (hd : decode cc pc = .ok ((.ifCond .ge off), len)) (hl : zlk zml own nL lg rt ini pc len nxt (.ifCond .ge off) v x) : zGo p l e R s m args below meth c Q D E nL lg M0 M9 pc ls st M := by
  obtain ⟨hx, hb, hml, hown, hts, hG, hini⟩ := hF
  obtain ⟨rfl, rfl, t, rfl, ht⟩ := hl
  obtain ⟨a, r, rfl, h1⟩ := zp1_inv h
  by_cases hc : 0 ≤ a
  · rw [if_pos hc] at h1
    obtain ⟨hm, hw⟩ := hbk _ _ _ _ h1
    exact ⟨hm, fun arr H locs g1 g2 g3 g4 g5 => lv_if_ge hx hb hd ht (fun _ => (hw arr H locs g1 g2 g3 g4 g5)) (fun hn => absurd hc hn)⟩
  · rw [if_neg hc] at h1
    obtain ⟨hm, hw⟩ := hk _ _ _ h1
    exact ⟨hm, fun arr H locs g1 g2 g3 g4 g5 => lv_if_ge hx hb hd ht (fun hn => absurd hn hc) (fun _ => (hw arr H locs g1 g2 g3 g4 g5))⟩
theorem zs_ifCond_gt_ok (hF : zFx p s m args meth c D E own cc nL ini) (hk : ∀ (ls : zL) (st : List zV) (M : zM), k ls st M = some (o, M9) → zGo p l e R s m args below meth c Q D E nL lg M0 M9 nxt ls st M) (hbk : ∀ (t : Nat) (ls : zL) (st : List zV) (M : zM), bk t ls st M = some (o, M9) → zGo p l e R s m args below meth c Q D E nL lg M0 M9 t ls st M) {off : Int} (h : zst E cf bk hh k pc (.ifCond .gt off) v x ls st M = some (o, M9)) (hd : decode cc pc = .ok ((.ifCond .gt off), len)) (hl : zlk zml own nL lg rt ini pc len nxt (.ifCond .gt off) v x) : zGo p l e R s m args below meth c Q D E nL lg M0 M9 pc ls st M := by
  obtain ⟨hx, hb, hml, hown, hts, hG, hini⟩ := hF
  obtain ⟨rfl, rfl, t, rfl, ht⟩ := hl
  obtain ⟨a, r, rfl, h1⟩ := zp1_inv h
  by_cases hc : 0 < a
  · rw [if_pos hc] at h1
    obtain ⟨hm, hw⟩ := hbk _ _ _ _ h1
    exact ⟨hm, fun arr H locs g1 g2 g3 g4 g5 => lv_if_gt hx hb hd ht (fun _ => (hw arr H locs g1 g2 g3 g4 g5)) (fun hn => absurd hc hn)⟩
  · rw [if_neg hc] at h1
    obtain ⟨hm, hw⟩ := hk _ _ _ h1
    exact ⟨hm, fun arr H locs g1 g2 g3 g4 g5 => lv_if_gt hx hb hd ht (fun hn => absurd hn hc) (fun _ => (hw arr H locs g1 g2 g3 g4 g5))⟩
theorem zs_ifCond_le_ok (hF : zFx p s m args meth c D E own cc nL ini) (hk : ∀ (ls : zL) (st : List zV) (M : zM), k ls st M = some (o, M9) → zGo p l e R s m args below meth c Q D E nL lg M0 M9 nxt ls st M) (hbk : ∀ (t : Nat) (ls : zL) (st : List zV) (M : zM), bk t ls st M = some (o, M9) → zGo p l e R s m args below meth c Q D E nL lg M0 M9 t ls st M) {off : Int} (h : zst E cf bk hh k pc (.ifCond .le off) v x ls st M = some (o, M9)) (hd : decode cc pc = .ok ((.ifCond .le off), len)) (hl : zlk zml own nL lg rt ini pc len nxt (.ifCond .le off) v x) : zGo p l e R s m args below meth c Q D E nL lg M0 M9 pc ls st M := by
  obtain ⟨hx, hb, hml, hown, hts, hG, hini⟩ := hF
  obtain ⟨rfl, rfl, t, rfl, ht⟩ := hl
  obtain ⟨a, r, rfl, h1⟩ := zp1_inv h
  by_cases hc : a ≤ 0
  · rw [if_pos hc] at h1
    obtain ⟨hm, hw⟩ := hbk _ _ _ _ h1
    exact ⟨hm, fun arr H locs g1 g2 g3 g4 g5 => lv_if_le hx hb hd ht (fun _ => (hw arr H locs g1 g2 g3 g4 g5)) (fun hn => absurd hc hn)⟩
  · rw [if_neg hc] at h1
    obtain ⟨hm, hw⟩ := hk _ _ _ h1
    exact ⟨hm, fun arr H locs g1 g2 g3 g4 g5 => lv_if_le hx hb hd ht (fun hn => absurd hn hc) (fun _ => (hw arr H locs g1 g2 g3 g4 g5))⟩
theorem zs_if_acmp_eq_ok (hF : zFx p s m args meth c D E own cc nL ini) (hk : ∀ (ls : zL) (st : List zV) (M : zM), k ls st M = some (o, M9) → zGo p l e R s m args below meth c Q D E nL lg M0 M9 nxt ls st M) (hbk : ∀ (t : Nat) (ls : zL) (st : List zV) (M : zM), bk t ls st M = some (o, M9) → zGo p l e R s m args below meth c Q D E nL lg M0 M9 t ls st M) {off : Int} (h : zst E cf bk hh k pc (.if_acmp .eq off) v x ls st M = some (o, M9)) (hd : decode cc pc = .ok ((.if_acmp .eq off), len)) (hl : zlk zml own nL lg rt ini pc len nxt (.if_acmp .eq off) v x) : zGo p l e R s m args below meth c Q D E nL lg M0 M9 pc ls st M := by
  obtain ⟨hx, hb, hml, hown, hts, hG, hini⟩ := hF
  obtain ⟨rfl, rfl, t, rfl, ht⟩ := hl
  obtain ⟨b, r, rfl, h1⟩ := zpr_inv h
  obtain ⟨a, r2, rfl, h2⟩ := zpr_inv h1
  by_cases hc : a = b
  · rw [if_pos hc] at h2
    obtain ⟨hm, hw⟩ := hbk _ _ _ _ h2
    exact ⟨hm, fun arr H locs g1 g2 g3 g4 g5 => lv_acmp_eq hx hb hd ht (fun _ => (hw arr H locs g1 g2 g3 g4 g5)) (fun hn => absurd hc hn)⟩
  · rw [if_neg hc] at h2
    obtain ⟨hm, hw⟩ := hk _ _ _ h2
    exact ⟨hm, fun arr H locs g1 g2 g3 g4 g5 => lv_acmp_eq hx hb hd ht (fun hn => absurd hn hc) (fun _ => (hw arr H locs g1 g2 g3 g4 g5))⟩
theorem zs_if_acmp_ne_ok (hF : zFx p s m args meth c D E own cc nL ini) (hk : ∀ (ls : zL) (st : List zV) (M : zM), k ls st M = some (o, M9) → zGo p l e R s m args below meth c Q D E nL lg M0 M9 nxt ls st M) (hbk : ∀ (t : Nat) (ls : zL) (st : List zV) (M : zM), bk t ls st M = some (o, M9) → zGo p l e R s m args below meth c Q D E nL lg M0 M9 t ls st M) {off : Int} (h : zst E cf bk hh k pc (.if_acmp .ne off) v x ls st M = some (o, M9)) (hd : decode cc pc = .ok ((.if_acmp .ne off), len)) (hl : zlk zml own nL lg rt ini pc len nxt (.if_acmp .ne off) v x) : zGo p l e R s m args below meth c Q D E nL lg M0 M9 pc ls st M := by
  obtain ⟨hx, hb, hml, hown, hts, hG, hini⟩ := hF
  obtain ⟨rfl, rfl, t, rfl, ht⟩ := hl
  obtain ⟨b, r, rfl, h1⟩ := zpr_inv h
  obtain ⟨a, r2, rfl, h2⟩ := zpr_inv h1
  by_cases hc : a = b
  · rw [if_pos hc] at h2
    obtain ⟨hm, hw⟩ := hk _ _ _ h2
    exact ⟨hm, fun arr H locs g1 g2 g3 g4 g5 => lv_acmp_ne hx hb hd ht (fun hn => absurd hc hn) (fun _ => (hw arr H locs g1 g2 g3 g4 g5))⟩
  · rw [if_neg hc] at h2
    obtain ⟨hm, hw⟩ := hbk _ _ _ _ h2
    exact ⟨hm, fun arr H locs g1 g2 g3 g4 g5 => lv_acmp_ne hx hb hd ht (fun _ => (hw arr H locs g1 g2 g3 g4 g5)) (fun hn => absurd hn hc)⟩
theorem zs_ifnull_ok (hF : zFx p s m args meth c D E own cc nL ini) (hk : ∀ (ls : zL) (st : List zV) (M : zM), k ls st M = some (o, M9) → zGo p l e R s m args below meth c Q D E nL lg M0 M9 nxt ls st M) (hbk : ∀ (t : Nat) (ls : zL) (st : List zV) (M : zM), bk t ls st M = some (o, M9) → zGo p l e R s m args below meth c Q D E nL lg M0 M9 t ls st M) {off : Int} (h : zst E cf bk hh k pc (.ifnull off) v x ls st M = some (o, M9)) (hd : decode cc pc = .ok ((.ifnull off), len)) (hl : zlk zml own nL lg rt ini pc len nxt (.ifnull off) v x) : zGo p l e R s m args below meth c Q D E nL lg M0 M9 pc ls st M := by
  obtain ⟨hx, hb, hml, hown, hts, hG, hini⟩ := hF
  obtain ⟨rfl, rfl, t, rfl, ht⟩ := hl
  obtain ⟨a, r, rfl, h1⟩ := zpr_inv h
  cases a with
  | none =>
    rw [if_pos rfl] at h1
    obtain ⟨hm, hw⟩ := hbk _ _ _ _ h1
    exact ⟨hm, fun arr H locs g1 g2 g3 g4 g5 => lv_ifnullN hx hb hd ht (hw arr H locs g1 g2 g3 g4 g5)⟩
  | some a =>
    rw [if_neg (fun h => by cases h)] at h1
    obtain ⟨hm, hw⟩ := hk _ _ _ h1
    exact ⟨hm, fun arr H locs g1 g2 g3 g4 g5 => lv_ifnull hx hb hd (hw arr H locs g1 g2 g3 g4 g5)⟩
theorem zs_ifnonnull_ok (hF : zFx p s m args meth c D E own cc nL ini) (hk : ∀ (ls : zL) (st : List zV) (M : zM), k ls st M = some (o, M9) → zGo p l e R s m args below meth c Q D E nL lg M0 M9 nxt ls st M) (hbk : ∀ (t : Nat) (ls : zL) (st : List zV) (M : zM), bk t ls st M = some (o, M9) → zGo p l e R s m args below meth c Q D E nL lg M0 M9 t ls st M) {off : Int} (h : zst E cf bk hh k pc (.ifnonnull off) v x ls st M = some (o, M9)) (hd : decode cc pc = .ok ((.ifnonnull off), len)) (hl : zlk zml own nL lg rt ini pc len nxt (.ifnonnull off) v x) : zGo p l e R s m args below meth c Q D E nL lg M0 M9 pc ls st M := by
  obtain ⟨hx, hb, hml, hown, hts, hG, hini⟩ := hF
  obtain ⟨rfl, rfl, t, rfl, ht⟩ := hl
  obtain ⟨a, r, rfl, h1⟩ := zpr_inv h
  cases a with
  | none =>
    rw [if_pos rfl] at h1
    obtain ⟨hm, hw⟩ := hk _ _ _ h1
    exact ⟨hm, fun arr H locs g1 g2 g3 g4 g5 => lv_ifnonnullN hx hb hd (hw arr H locs g1 g2 g3 g4 g5)⟩
  | some a =>
    rw [if_neg (fun h => by cases h)] at h1
    obtain ⟨hm, hw⟩ := hbk _ _ _ _ h1
    exact ⟨hm, fun arr H locs g1 g2 g3 g4 g5 => lv_ifnonnull hx hb hd ht (hw arr H locs g1 g2 g3 g4 g5)⟩
theorem zs_tableswitch_ok (hF : zFx p s m args meth c D E own cc nL ini) (hk : ∀ (ls : zL) (st : List zV) (M : zM), k ls st M = some (o, M9) → zGo p l e R s m args below meth c Q D E nL lg M0 M9 nxt ls st M) (hbk : ∀ (t : Nat) (ls : zL) (st : List zV) (M : zM), bk t ls st M = some (o, M9) → zGo p l e R s m args below meth c Q D E nL lg M0 M9 t ls st M) {df lo hi : Int} {offs : Array Int} (h : zst E cf bk hh k pc (.tableswitch df lo hi offs) v x ls st M = some (o, M9)) (hd : decode cc pc = .ok ((.tableswitch df lo hi offs), len)) (hl : zlk zml own nL lg rt ini pc len nxt (.tableswitch df lo hi offs) v x) : zGo p l e R s m args below meth c Q D E nL lg M0 M9 pc ls st M := by
  obtain ⟨hx, hb, hml, hown, hts, hG, hini⟩ := hF
  obtain ⟨t, ps, rfl, ht, hlo, hhi, hps⟩ := hl
  obtain ⟨a, r, rfl, h1⟩ := zp1_inv h
  rcases z_tab hps hlo h1 with ⟨j, t2, off, e1, e2, e3, h2⟩ | ⟨e1, h2⟩
  · obtain ⟨hm, hw⟩ := hbk _ _ _ _ h2
    have hj : j < offs.toList.length := (List.getElem?_eq_some_iff.mp e1).1
    refine ⟨hm, fun arr H locs g1 g2 g3 g4 g5 => lv_tableIn hx hb hd (by omega) (by omega) (off := off) ?_ e3 (hw arr H locs g1 g2 g3 g4 g5)⟩
    rw [show (a.toInt - lo).toNat = j by omega, ← Array.getElem?_toList]
    exact e1
  · obtain ⟨hm, hw⟩ := hbk _ _ _ _ h2
    refine ⟨hm, fun arr H locs g1 g2 g3 g4 g5 => lv_tableOut hx hb hd ?_ ht (hw arr H locs g1 g2 g3 g4 g5)⟩
    by_cases h3 : a.toInt < lo
    · exact Or.inl h3
    · refine Or.inr ?_
      by_cases h4 : hi < a.toInt
      · exact h4
      · exact absurd (show a.toInt = lo + ((a.toInt - lo).toNat : Nat) by omega) (e1 (a.toInt - lo).toNat (by omega))
theorem zs_lookupswitch_ok (hF : zFx p s m args meth c D E own cc nL ini) (hk : ∀ (ls : zL) (st : List zV) (M : zM), k ls st M = some (o, M9) → zGo p l e R s m args below meth c Q D E nL lg M0 M9 nxt ls st M) (hbk : ∀ (t : Nat) (ls : zL) (st : List zV) (M : zM), bk t ls st M = some (o, M9) → zGo p l e R s m args below meth c Q D E nL lg M0 M9 t ls st M) {df : Int} {os : Array (Int × Int)} (h : zst E cf bk hh k pc (.lookupswitch df os) v x ls st M = some (o, M9)) (hd : decode cc pc = .ok ((.lookupswitch df os), len)) (hl : zlk zml own nL lg rt ini pc len nxt (.lookupswitch df os) v x) : zGo p l e R s m args below meth c Q D E nL lg M0 M9 pc ls st M := by
  obtain ⟨hx, hb, hml, hown, hts, hG, hini⟩ := hF
  obtain ⟨hs, t, ps, rfl, ht, hps⟩ := hl
  obtain ⟨a, r, rfl, h1⟩ := zp1_inv h
  obtain ⟨t2, e1, h2⟩ := z_lok hps ht h1
  obtain ⟨hm, hw⟩ := hbk _ _ _ _ h2
  exact ⟨hm, fun arr H locs g1 g2 g3 g4 g5 => lv_lookup hx hb hd hs rfl e1 (hw arr H locs g1 g2 g3 g4 g5)⟩
end ZMAIN
