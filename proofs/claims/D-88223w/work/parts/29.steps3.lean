/-! ===== the step: statics, new cells, arrays, casts, copies ===== -/
theorem zat_ex {κ : Nat} (h1 : 101 ≤ κ) (h2 : κ ≤ 111) : ∃ (i : Nat) (t : FieldType), zat[i]? = some t ∧ κ = 101 + i := by
  have h : κ - 101 < zat.length := by show κ - 101 < 11; omega
  exact ⟨κ - 101, zat[κ - 101], List.getElem?_eq_getElem h, by omega⟩
theorem z_sub {a b c r : Nat} (h1 : a ≤ b) (h2 : b + 1 ≤ c) (h3 : c - a ≤ r) : b - a + 1 ≤ r ∧ b + 1 - a = b - a + 1 := by omega
theorem z_sub2 {a b c r w : Nat} (h1 : a ≤ b) (h2 : b + w ≤ c) (h3 : c - a ≤ r) : b - a + w ≤ r ∧ b + w - a = b - a + w := by omega
section ZMAIN3
variable {p : Program} {l : Launch} {e : Env} {R : Room} {s : State} {m : MethodId} {args : Array Value} {below : List Frame} {meth : Method} {c : Code} {Q : State → Prop}
variable {cc : ByteArray} {pc nxt len nL d : Nat} {D : zD} {E : zE} {M M0 M9 : zM} {own : String} {lg : Bool} {rt : Option FieldType} {ini : Prop} {o : Option zV ⊕ Nat} {ls : zL} {st : List zV} {zml : List zY} {hh : List Nat} {i : Instr} {v : Int32} {x : List Nat}
variable {cf : Nat → List zV → zM → Option zR} {bk : Nat → zL → List zV → zM → Option zR} {k : zL → List zV → zM → Option zR}
theorem zs_getstatic_ok {idx : Nat} (hF : zFx p s m args meth c D E own cc nL ini) (hk : ∀ (ls : zL) (st : List zV) (M : zM), k ls st M = some (o, M9) → zGo p l e R s m args below meth c Q D E nL lg M0 M9 nxt ls st M) (h : zst E cf bk hh k pc (.getstatic idx) v x ls st M = some (o, M9)) (hd : decode cc pc = .ok (.getstatic idx, len)) (hl : zlk zml own nL lg rt ini pc len nxt (.getstatic idx) v x) : zGo p l e R s m args below meth c Q D E nL lg M0 M9 pc ls st M := by
  obtain ⟨hx, hb, hml, hown, hts, hG, hini⟩ := hF
  obtain ⟨rfl, rfl, hl⟩ := hl
  rcases hl with ⟨rfl, C, n, dd, h1, h2⟩ | ⟨C, n, dd, kk, rfl, h1, h2⟩
  · obtain ⟨hm, hw⟩ := hk _ _ _ (show k ls (zi v :: st) M = some (o, M9) from h)
    exact ⟨hm, fun arr H locs g1 g2 g3 g4 g5 => va_gets hx hb (hG.2.2.2.2.2.1 _ h1) g3 hown (hts _ h2) (fun _ h => h) hd (hw arr H locs g1 g2 g3 g4 g5)⟩
  · obtain ⟨hm, hw⟩ := hk _ _ _ (show k ls (zr (E.2.2 kk) :: st) M = some (o, M9) from h)
    exact ⟨hm, fun arr H locs g1 g2 g3 g4 g5 => va_gets hx hb (hG.2.2.2.2.2.2 _ h1) g3 hown (hts _ h2) (fun _ h => h) hd (hw arr H locs g1 g2 g3 g4 g5)⟩
theorem zs_new_ok {idx : Nat} (hF : zFx p s m args meth c D E own cc nL ini) (hR : zRo R d M0 M9) (hk : ∀ (ls : zL) (st : List zV) (M : zM), k ls st M = some (o, M9) → zGo p l e R s m args below meth c Q D E nL lg M0 M9 nxt ls st M) (h : zst E cf bk hh k pc (.new idx) v x ls st M = some (o, M9)) (hd : decode cc pc = .ok (.new idx, len)) (hl : zlk zml own nL lg rt ini pc len nxt (.new idx) v x) : zGo p l e R s m args below meth c Q D E nL lg M0 M9 pc ls st M := by
  obtain ⟨hx, hb, hml, hown, hts, hG, hini⟩ := hF
  rcases hl with rfl | ⟨rfl, rfl, ci, q, rfl, h1, h2, h3, h4⟩
  · cases h
  · obtain ⟨hm, hw⟩ := hk _ _ _ (show k ls (zr (some (mS M)) :: st) (zal M (ci + 1) 0 q.2.2) = some (o, M9) from h)
    have hm1 : mS M + 1 ≤ mS M9 := hm.1
    have hm2 : mU M + q.2.2 ≤ mU M9 := hm.2
    refine ⟨⟨by omega, by omega⟩, fun arr H locs g1 g2 g3 g4 g5 => ?_⟩
    obtain ⟨a1, a2⟩ := z_sub g4 hm1 hR.2.2.1
    obtain ⟨a3, a4⟩ := z_sub2 g5 hm2 hR.2.2.2
    refine z_new hx hb hG.1 g2 g3 h1 hts hown (hts _ h2) (hts _ h3) (hts _ h4) a1 a3 hd (fun H' r1 r2 => ?_)
    have h9 := hw arr H' locs g1 r1 r2 (show mS M0 ≤ mS M + 1 by omega) (show mU M0 ≤ mU M + q.2.2 by omega)
    rw [show mS (zal M (ci + 1) 0 q.2.2) - mS M0 = mS M - mS M0 + 1 from a2, show mU (zal M (ci + 1) 0 q.2.2) - mU M0 = mU M - mU M0 + q.2.2 from a4] at h9
    exact h9
theorem zs_newarray_ok {ty : ArrayType} (hF : zFx p s m args meth c D E own cc nL ini) (hR : zRo R d M0 M9) (hk : ∀ (ls : zL) (st : List zV) (M : zM), k ls st M = some (o, M9) → zGo p l e R s m args below meth c Q D E nL lg M0 M9 nxt ls st M) (h : zst E cf bk hh k pc (.newarray ty) v x ls st M = some (o, M9)) (hd : decode cc pc = .ok (.newarray ty, len)) (hl : zlk zml own nL lg rt ini pc len nxt (.newarray ty) v x) : zGo p l e R s m args below meth c Q D E nL lg M0 M9 pc ls st M := by
  obtain ⟨hx, hb, hml, hown, hts, hG, hini⟩ := hF
  obtain ⟨rfl, rfl, j, rfl, h1, h2, h3⟩ := hl
  obtain ⟨n, r, rfl, h4⟩ := zp1_inv h
  obtain ⟨h5, h6⟩ := zif_inv h4
  obtain ⟨hm, hw⟩ := hk _ _ _ (show k ls (zr (some (mS M)) :: r) (zal M (101 + j) n.toNatClampNeg n.toNatClampNeg) = some (o, M9) from h6)
  have hm1 : mS M + 1 ≤ mS M9 := hm.1
  have hm2 : mU M + n.toNatClampNeg ≤ mU M9 := hm.2
  refine ⟨⟨by omega, by omega⟩, fun arr H locs g1 g2 g3 g4 g5 => ?_⟩
  obtain ⟨a1, a2⟩ := z_sub g4 hm1 hR.2.2.1
  obtain ⟨a3, a4⟩ := z_sub2 g5 hm2 hR.2.2.2
  refine z_newarr hx hb hG.1 g2 g3 rfl h2 h1 (hts _ h3) h5 a1 a3 hd (fun H' r1 r2 => ?_)
  have h9 := hw arr H' locs g1 r1 r2 (show mS M0 ≤ mS M + 1 by omega) (show mU M0 ≤ mU M + n.toNatClampNeg by omega)
  rw [show mS (zal M (101 + j) n.toNatClampNeg n.toNatClampNeg) - mS M0 = mS M - mS M0 + 1 from a2, show mU (zal M (101 + j) n.toNatClampNeg n.toNatClampNeg) - mU M0 = mU M - mU M0 + n.toNatClampNeg from a4] at h9
  exact h9
theorem zs_anewarray_ok {idx : Nat} (hF : zFx p s m args meth c D E own cc nL ini) (hR : zRo R d M0 M9) (hk : ∀ (ls : zL) (st : List zV) (M : zM), k ls st M = some (o, M9) → zGo p l e R s m args below meth c Q D E nL lg M0 M9 nxt ls st M) (h : zst E cf bk hh k pc (.anewarray idx) v x ls st M = some (o, M9)) (hd : decode cc pc = .ok (.anewarray idx, len)) (hl : zlk zml own nL lg rt ini pc len nxt (.anewarray idx) v x) : zGo p l e R s m args below meth c Q D E nL lg M0 M9 pc ls st M := by
  obtain ⟨hx, hb, hml, hown, hts, hG, hini⟩ := hF
  obtain ⟨rfl, rfl, j, C, rfl, h1, h2, h3⟩ := hl
  obtain ⟨n, r, rfl, h4⟩ := zp1_inv h
  obtain ⟨h5, h6⟩ := zif_inv h4
  obtain ⟨hm, hw⟩ := hk _ _ _ (show k ls (zr (some (mS M)) :: r) (zal M (101 + j) n.toNatClampNeg n.toNatClampNeg) = some (o, M9) from h6)
  have hm1 : mS M + 1 ≤ mS M9 := hm.1
  have hm2 : mU M + n.toNatClampNeg ≤ mU M9 := hm.2
  refine ⟨⟨by omega, by omega⟩, fun arr H locs g1 g2 g3 g4 g5 => ?_⟩
  obtain ⟨a1, a2⟩ := z_sub g4 hm1 hR.2.2.1
  obtain ⟨a3, a4⟩ := z_sub2 g5 hm2 hR.2.2.2
  refine z_anew hx hb hG.1 g2 g3 h1 hown (hts _ h2) (hG.2.2.1 _ h3) h5 a1 a3 hd (fun H' r1 r2 => ?_)
  have h9 := hw arr H' locs g1 r1 r2 (show mS M0 ≤ mS M + 1 by omega) (show mU M0 ≤ mU M + n.toNatClampNeg by omega)
  rw [show mS (zal M (101 + j) n.toNatClampNeg n.toNatClampNeg) - mS M0 = mS M - mS M0 + 1 from a2, show mU (zal M (101 + j) n.toNatClampNeg n.toNatClampNeg) - mU M0 = mU M - mU M0 + n.toNatClampNeg from a4] at h9
  exact h9
theorem zs_arraylength_ok (hF : zFx p s m args meth c D E own cc nL ini) (hk : ∀ (ls : zL) (st : List zV) (M : zM), k ls st M = some (o, M9) → zGo p l e R s m args below meth c Q D E nL lg M0 M9 nxt ls st M) (h : zst E cf bk hh k pc .arraylength v x ls st M = some (o, M9)) (hd : decode cc pc = .ok (.arraylength, len)) (hl : zlk zml own nL lg rt ini pc len nxt .arraylength v x) : zGo p l e R s m args below meth c Q D E nL lg M0 M9 pc ls st M := by
  obtain ⟨hx, hb, hml, hown, hts, hG, hini⟩ := hF
  obtain ⟨rfl, rfl⟩ := hl
  obtain ⟨ob, r, rfl, h1⟩ := zpr_inv h
  obtain ⟨a, rfl, h2⟩ := zdr_inv h1
  obtain ⟨h3, h4⟩ := zif_inv h2
  obtain ⟨hm, hw⟩ := hk _ _ _ h4
  refine ⟨hm, fun arr H locs g1 g2 g3 g4 g5 => ?_⟩
  obtain ⟨j, t, h5, h6⟩ := zat_ex (Nat.le_of_ble_eq_true h3) (g2.2.1.2 a)
  exact z_alen hx hb g2 h5 h6 hd (hw arr H locs g1 g2 g3 g4 g5)
theorem zs_iaload_ok (hF : zFx p s m args meth c D E own cc nL ini) (hk : ∀ (ls : zL) (st : List zV) (M : zM), k ls st M = some (o, M9) → zGo p l e R s m args below meth c Q D E nL lg M0 M9 nxt ls st M) (h : zst E cf bk hh k pc .iaload v x ls st M = some (o, M9)) (hd : decode cc pc = .ok (.iaload, len)) (hl : zlk zml own nL lg rt ini pc len nxt .iaload v x) : zGo p l e R s m args below meth c Q D E nL lg M0 M9 pc ls st M := by
  obtain ⟨hx, hb, hml, hown, hts, hG, hini⟩ := hF
  obtain ⟨rfl, rfl⟩ := hl
  obtain ⟨j, r1, rfl, h1⟩ := zp1_inv h
  obtain ⟨ob, r, rfl, h2⟩ := zpr_inv h1
  obtain ⟨a, rfl, h3⟩ := zdr_inv h2
  obtain ⟨h4, h5⟩ := zif_inv h3
  obtain ⟨h6, h7⟩ := zif_inv h5
  obtain ⟨hm, hw⟩ := hk _ _ _ h7
  exact ⟨hm, fun arr H locs g1 g2 g3 g4 g5 => z_iald hx hb g2 (by simpa using h4) h6 hd (hw arr H locs g1 g2 g3 g4 g5)⟩
theorem zs_baload_ok (hF : zFx p s m args meth c D E own cc nL ini) (hk : ∀ (ls : zL) (st : List zV) (M : zM), k ls st M = some (o, M9) → zGo p l e R s m args below meth c Q D E nL lg M0 M9 nxt ls st M) (h : zst E cf bk hh k pc .baload v x ls st M = some (o, M9)) (hd : decode cc pc = .ok (.baload, len)) (hl : zlk zml own nL lg rt ini pc len nxt .baload v x) : zGo p l e R s m args below meth c Q D E nL lg M0 M9 pc ls st M := by
  obtain ⟨hx, hb, hml, hown, hts, hG, hini⟩ := hF
  obtain ⟨rfl, rfl⟩ := hl
  obtain ⟨j, r1, rfl, h1⟩ := zp1_inv h
  obtain ⟨ob, r, rfl, h2⟩ := zpr_inv h1
  obtain ⟨a, rfl, h3⟩ := zdr_inv h2
  obtain ⟨h4, h5⟩ := zif_inv h3
  obtain ⟨h6, h7⟩ := zif_inv h5
  obtain ⟨hm, hw⟩ := hk _ _ _ h7
  exact ⟨hm, fun arr H locs g1 g2 g3 g4 g5 => z_bald hx hb g2 (by simpa using zkb_inv h4) h6 hd (hw arr H locs g1 g2 g3 g4 g5)⟩
theorem zs_caload_ok (hF : zFx p s m args meth c D E own cc nL ini) (hk : ∀ (ls : zL) (st : List zV) (M : zM), k ls st M = some (o, M9) → zGo p l e R s m args below meth c Q D E nL lg M0 M9 nxt ls st M) (h : zst E cf bk hh k pc .caload v x ls st M = some (o, M9)) (hd : decode cc pc = .ok (.caload, len)) (hl : zlk zml own nL lg rt ini pc len nxt .caload v x) : zGo p l e R s m args below meth c Q D E nL lg M0 M9 pc ls st M := by
  obtain ⟨hx, hb, hml, hown, hts, hG, hini⟩ := hF
  obtain ⟨rfl, rfl⟩ := hl
  obtain ⟨j, r1, rfl, h1⟩ := zp1_inv h
  obtain ⟨ob, r, rfl, h2⟩ := zpr_inv h1
  obtain ⟨a, rfl, h3⟩ := zdr_inv h2
  obtain ⟨h4, h5⟩ := zif_inv h3
  obtain ⟨h6, h7⟩ := zif_inv h5
  obtain ⟨hm, hw⟩ := hk _ _ _ h7
  exact ⟨hm, fun arr H locs g1 g2 g3 g4 g5 => z_cald hx hb g2 (by simpa using h4) h6 hd (hw arr H locs g1 g2 g3 g4 g5)⟩
theorem zs_aaload_ok (hF : zFx p s m args meth c D E own cc nL ini) (hk : ∀ (ls : zL) (st : List zV) (M : zM), k ls st M = some (o, M9) → zGo p l e R s m args below meth c Q D E nL lg M0 M9 nxt ls st M) (h : zst E cf bk hh k pc .aaload v x ls st M = some (o, M9)) (hd : decode cc pc = .ok (.aaload, len)) (hl : zlk zml own nL lg rt ini pc len nxt .aaload v x) : zGo p l e R s m args below meth c Q D E nL lg M0 M9 pc ls st M := by
  obtain ⟨hx, hb, hml, hown, hts, hG, hini⟩ := hF
  obtain ⟨rfl, rfl⟩ := hl
  obtain ⟨j, r1, rfl, h1⟩ := zp1_inv h
  obtain ⟨ob, r, rfl, h2⟩ := zpr_inv h1
  obtain ⟨a, rfl, h3⟩ := zdr_inv h2
  obtain ⟨h4, h5⟩ := zif_inv h3
  obtain ⟨h6, h7⟩ := zif_inv h5
  obtain ⟨hm, hw⟩ := hk _ _ _ h7
  have h8 : 105 ≤ mK M a := Nat.le_of_ble_eq_true h4
  refine ⟨hm, fun arr H locs g1 g2 g3 g4 g5 => ?_⟩
  obtain ⟨i2, t, h9, h10⟩ := zat_ex (by omega) (g2.2.1.2 a)
  exact z_aald hx hb g2 h9 (by omega) h10 h6 hd (hw arr H locs g1 g2 g3 g4 g5)
theorem zs_iastore_ok (hF : zFx p s m args meth c D E own cc nL ini) (hk : ∀ (ls : zL) (st : List zV) (M : zM), k ls st M = some (o, M9) → zGo p l e R s m args below meth c Q D E nL lg M0 M9 nxt ls st M) (h : zst E cf bk hh k pc .iastore v x ls st M = some (o, M9)) (hd : decode cc pc = .ok (.iastore, len)) (hl : zlk zml own nL lg rt ini pc len nxt .iastore v x) : zGo p l e R s m args below meth c Q D E nL lg M0 M9 pc ls st M := by
  obtain ⟨hx, hb, hml, hown, hts, hG, hini⟩ := hF
  obtain ⟨rfl, rfl⟩ := hl
  obtain ⟨w, j, r1, rfl, h1⟩ := zp2_inv h
  obtain ⟨ob, r, rfl, h2⟩ := zpr_inv h1
  obtain ⟨a, rfl, h3⟩ := zdr_inv h2
  obtain ⟨h4, h5⟩ := zif_inv h3
  obtain ⟨h6, h7⟩ := zif_inv h5
  obtain ⟨h8, h9⟩ := zif_inv h7
  obtain ⟨hm, hw⟩ := hk _ _ _ h9
  exact ⟨hm, fun arr H locs g1 g2 g3 g4 g5 => z_iast hx hb g2 g3 (by simpa using h4) (Nat.le_of_ble_eq_true h6) h8 hd (fun H' locs' r1 r2 => hw arr H' locs' g1 r1 r2 g4 g5)⟩
theorem zs_castore_ok (hF : zFx p s m args meth c D E own cc nL ini) (hk : ∀ (ls : zL) (st : List zV) (M : zM), k ls st M = some (o, M9) → zGo p l e R s m args below meth c Q D E nL lg M0 M9 nxt ls st M) (h : zst E cf bk hh k pc .castore v x ls st M = some (o, M9)) (hd : decode cc pc = .ok (.castore, len)) (hl : zlk zml own nL lg rt ini pc len nxt .castore v x) : zGo p l e R s m args below meth c Q D E nL lg M0 M9 pc ls st M := by
  obtain ⟨hx, hb, hml, hown, hts, hG, hini⟩ := hF
  obtain ⟨rfl, rfl⟩ := hl
  obtain ⟨w, j, r1, rfl, h1⟩ := zp2_inv h
  obtain ⟨ob, r, rfl, h2⟩ := zpr_inv h1
  obtain ⟨a, rfl, h3⟩ := zdr_inv h2
  obtain ⟨h4, h5⟩ := zif_inv h3
  obtain ⟨h6, h7⟩ := zif_inv h5
  obtain ⟨h8, h9⟩ := zif_inv h7
  obtain ⟨hm, hw⟩ := hk _ _ _ h9
  exact ⟨hm, fun arr H locs g1 g2 g3 g4 g5 => z_cast hx hb g2 g3 (by simpa using h4) (Nat.le_of_ble_eq_true h6) h8 hd (fun H' locs' r1 r2 => hw arr H' locs' g1 r1 r2 g4 g5)⟩
theorem zs_bastore_ok (hF : zFx p s m args meth c D E own cc nL ini) (hk : ∀ (ls : zL) (st : List zV) (M : zM), k ls st M = some (o, M9) → zGo p l e R s m args below meth c Q D E nL lg M0 M9 nxt ls st M) (h : zst E cf bk hh k pc .bastore v x ls st M = some (o, M9)) (hd : decode cc pc = .ok (.bastore, len)) (hl : zlk zml own nL lg rt ini pc len nxt .bastore v x) : zGo p l e R s m args below meth c Q D E nL lg M0 M9 pc ls st M := by
  obtain ⟨hx, hb, hml, hown, hts, hG, hini⟩ := hF
  obtain ⟨rfl, rfl⟩ := hl
  obtain ⟨w, j, r1, rfl, h1⟩ := zp2_inv h
  obtain ⟨ob, r, rfl, h2⟩ := zpr_inv h1
  obtain ⟨a, rfl, h3⟩ := zdr_inv h2
  obtain ⟨h6, h7⟩ := zif_inv h3
  obtain ⟨h8, h9⟩ := zif_inv h7
  generalize zx x 0 = n at h9
  match n, h9 with
  | 0, h9 =>
    obtain ⟨h4, h5⟩ := zif_inv h9
    obtain ⟨hm, hw⟩ := hk _ _ _ h5
    exact ⟨hm, fun arr H locs g1 g2 g3 g4 g5 => z_bast hx hb g2 g3 (by simpa using h4) (Nat.le_of_ble_eq_true h6) h8 hd (fun H' locs' r1 r2 => hw arr H' locs' g1 r1 r2 g4 g5)⟩
  | n + 1, h9 =>
    obtain ⟨h4, h5⟩ := zif_inv h9
    obtain ⟨hm, hw⟩ := hk _ _ _ h5
    exact ⟨hm, fun arr H locs g1 g2 g3 g4 g5 => z_zast hx hb g2 g3 (by simpa using h4) (Nat.le_of_ble_eq_true h6) h8 hd (fun H' locs' r1 r2 => hw arr H' locs' g1 r1 r2 g4 g5)⟩
theorem zs_aastore_ok (hF : zFx p s m args meth c D E own cc nL ini) (hk : ∀ (ls : zL) (st : List zV) (M : zM), k ls st M = some (o, M9) → zGo p l e R s m args below meth c Q D E nL lg M0 M9 nxt ls st M) (h : zst E cf bk hh k pc .aastore v x ls st M = some (o, M9)) (hd : decode cc pc = .ok (.aastore, len)) (hl : zlk zml own nL lg rt ini pc len nxt .aastore v x) : zGo p l e R s m args below meth c Q D E nL lg M0 M9 pc ls st M := by
  obtain ⟨hx, hb, hml, hown, hts, hG, hini⟩ := hF
  obtain ⟨rfl, rfl, j2, t, ks, rfl, hj4, hjt, hks⟩ := hl
  obtain ⟨ow, r1, rfl, h1⟩ := zpr_inv h
  obtain ⟨j, r2, rfl, h2⟩ := zp1_inv h1
  obtain ⟨oa, r, rfl, h3⟩ := zpr_inv h2
  obtain ⟨a, rfl, h4⟩ := zdr_inv h3
  obtain ⟨b, rfl, h5⟩ := zdr_inv h4
  obtain ⟨h6, h7⟩ := zif_inv h5
  obtain ⟨h8, h9⟩ := zif_inv h7
  obtain ⟨h10, h11⟩ := zif_inv h9
  obtain ⟨h12, h13⟩ := zif_inv h11
  obtain ⟨ci, q, e1, e2, e3⟩ := hks _ (zkb_inv h8)
  have e4 : mK M a = 101 + j2 := eq_of_beq h6
  have e5 : zfit s t q := by
    rcases e3 with e3 | ⟨C, e3, e6⟩
    · exact Or.inl e3
    · exact Or.inr ⟨C, e3, hG.2.1 _ e6⟩
  obtain ⟨hm, hw⟩ := hk _ _ _ h13
  exact ⟨hm, fun arr H locs g1 g2 g3 g4 g5 => z_aast hx hb hG.1 g2 g3 hjt hj4 e4 (Nat.le_of_ble_eq_true h10) e2 e1 e5 h12 hd (fun H' locs' r1 r2 => hw arr H' locs' g1 r1 r2 g4 g5)⟩
theorem zs_checkcast_ok {idx : Nat} (hF : zFx p s m args meth c D E own cc nL ini) (hk : ∀ (ls : zL) (st : List zV) (M : zM), k ls st M = some (o, M9) → zGo p l e R s m args below meth c Q D E nL lg M0 M9 nxt ls st M) (h : zst E cf bk hh k pc (.checkcast idx) v x ls st M = some (o, M9)) (hd : decode cc pc = .ok (.checkcast idx, len)) (hl : zlk zml own nL lg rt ini pc len nxt (.checkcast idx) v x) : zGo p l e R s m args below meth c Q D E nL lg M0 M9 pc ls st M := by
  obtain ⟨hx, hb, hml, hown, hts, hG, hini⟩ := hF
  rcases hl with rfl | ⟨rfl, rfl, ⟨ci, q, rfl, h1, h2⟩ | ⟨rfl, h2⟩⟩
  · cases h
  · obtain ⟨ob, r, rfl, h3⟩ := zpr_inv h
    obtain ⟨a, rfl, h4⟩ := zdr_inv h3
    obtain ⟨h5, h6⟩ := zif_inv h4
    obtain ⟨hm, hw⟩ := hk _ _ _ h6
    exact ⟨hm, fun arr H locs g1 g2 g3 g4 g5 => va_castS hx hb hown (hts _ h2) (hG.1.1 ci q h1).2 (z_recv hG.1 g2 h1 (by simpa using h5)) hd (hw arr H locs g1 g2 g3 g4 g5)⟩
  · obtain ⟨ob, r, rfl, h3⟩ := zpr_inv h
    obtain ⟨a, rfl, h4⟩ := zdr_inv h3
    obtain ⟨h5, h6⟩ := zif_inv h4
    obtain ⟨hm, hw⟩ := hk _ _ _ h6
    rw [Bool.and_eq_true] at h5
    have h7 : mK M a = 101 + 1 := by simpa using h5.1
    have h8 : E.1 ≤ a := Nat.le_of_ble_eq_true h5.2
    refine ⟨hm, fun arr H locs g1 g2 g3 g4 g5 => va_castE hx hb hown (hts _ h2) ?_ hd (hw arr H locs g1 g2 g3 g4 g5)⟩
    obtain ⟨cell, f1, f2, f3, f4, f5, f6, f7⟩ := g2.2.2.2 a 1 .byte rfl h7
    have hc := f7 h8
    refine ⟨cell, f1, by rw [hc]; rfl, ?_⟩
    have e9 : s.vm.findClass "[B" = some (D.2 1) := (hG.1.2 1 _ (ztl_at (f := D.2) (i := 1) rfl)).2
    rw [e9, hc]
    rfl
theorem zs_instanceof_ok {idx : Nat} (hF : zFx p s m args meth c D E own cc nL ini) (hk : ∀ (ls : zL) (st : List zV) (M : zM), k ls st M = some (o, M9) → zGo p l e R s m args below meth c Q D E nL lg M0 M9 nxt ls st M) (h : zst E cf bk hh k pc (.instanceof idx) v x ls st M = some (o, M9)) (hd : decode cc pc = .ok (.instanceof idx, len)) (hl : zlk zml own nL lg rt ini pc len nxt (.instanceof idx) v x) : zGo p l e R s m args below meth c Q D E nL lg M0 M9 pc ls st M := by
  obtain ⟨hx, hb, hml, hown, hts, hG, hini⟩ := hF
  obtain ⟨ob, r, rfl, h1⟩ := zpr_inv h
  obtain ⟨a, rfl, h2⟩ := zdr_inv h1
  obtain ⟨h3, h4⟩ := zif_inv h2
  rcases hl with rfl | ⟨rfl, rfl, ci, q, ks, rfl, e1, e2, e3⟩
  · cases h3
  · have h5 : cond (mK M a == ci + 1) (k ls (zi 1 :: r) M) (k ls (zi 0 :: r) M) = some (o, M9) := h4
    cases hb2 : (mK M a == ci + 1) with
    | true =>
      rw [hb2] at h5
      obtain ⟨hm, hw⟩ := hk _ _ _ (show k ls (zi 1 :: r) M = some (o, M9) from h5)
      exact ⟨hm, fun arr H locs g1 g2 g3 g4 g5 => va_instS hx hb hown (hts _ e2) (hG.1.1 ci q e1).2 (z_recv hG.1 g2 e1 (by simpa using hb2)) hd (hw arr H locs g1 g2 g3 g4 g5)⟩
    | false =>
      rw [hb2] at h5
      obtain ⟨hm, hw⟩ := hk _ _ _ (show k ls (zi 0 :: r) M = some (o, M9) from h5)
      have h6 := zkb_inv h3
      rcases List.mem_cons.mp h6 with h7 | h7
      · rw [h7] at hb2
        simp at hb2
      · obtain ⟨c2, q2, f1, f2, f3⟩ := e3 _ h7
        exact ⟨hm, fun arr H locs g1 g2 g3 g4 g5 => va_instNo hx hb hown (hts _ e2) (hG.2.2.2.1 _ f3) (z_recv hG.1 g2 f2 f1) hd (hw arr H locs g1 g2 g3 g4 g5)⟩
end ZMAIN3
