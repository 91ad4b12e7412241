/-! ===== the step: fields, arrays, new cells, casts, ends ===== -/
theorem zno9 : ∀ (ci : Nat) (q : vw_C), zcl[ci]? = some q → ∀ k, k < q.2.2 → zty ci k ≠ .char ∧ zty ci k ≠ .short := by
  intro c q h
  match c, h with
  | 0, h => cases h; show ∀ k, k < 16 → tyX0 k ≠ .char ∧ tyX0 k ≠ .short; decide +kernel
  | 1, h => cases h; show ∀ k, k < 9 → tyX1 k ≠ .char ∧ tyX1 k ≠ .short; decide +kernel
  | 2, h => cases h; show ∀ k, k < 9 → tyX2 k ≠ .char ∧ tyX2 k ≠ .short; decide +kernel
  | 3, h => cases h; show ∀ k, k < 8 → tyX3 k ≠ .char ∧ tyX3 k ≠ .short; decide +kernel
  | 4, h => cases h; show ∀ k, k < 20 → tyX4 k ≠ .char ∧ tyX4 k ≠ .short; decide +kernel
  | 5, h => cases h; show ∀ k, k < 3 → tyX5 k ≠ .char ∧ tyX5 k ≠ .short; decide +kernel
  | 6, h => cases h; show ∀ k, k < 40 → tyX6 k ≠ .char ∧ tyX6 k ≠ .short; decide +kernel
  | 7, h => cases h; show ∀ k, k < 24 → tyX7 k ≠ .char ∧ tyX7 k ≠ .short; decide +kernel
  | 8, h => cases h; show ∀ k, k < 8 → tyX8 k ≠ .char ∧ tyX8 k ≠ .short; decide +kernel
  | 9, h => cases h; show ∀ k, k < 2 → tyX9 k ≠ .char ∧ tyX9 k ≠ .short; decide +kernel
  | 10, h => cases h; show ∀ k, k < 3 → tyX10 k ≠ .char ∧ tyX10 k ≠ .short; decide +kernel
  | 11, h => cases h; show ∀ k, k < 3 → tyX11 k ≠ .char ∧ tyX11 k ≠ .short; decide +kernel
  | 12, h => cases h; show ∀ k, k < 4 → tyX13 k ≠ .char ∧ tyX13 k ≠ .short; decide +kernel
  | 13, h => cases h; show ∀ k, k < 4 → tyX14 k ≠ .char ∧ tyX14 k ≠ .short; decide +kernel
  | 14, h => cases h; show ∀ k, k < 2 → tyX15 k ≠ .char ∧ tyX15 k ≠ .short; decide +kernel
  | 15, h => cases h; show ∀ k, k < 3 → tyX16 k ≠ .char ∧ tyX16 k ≠ .short; decide +kernel
  | 16, h => cases h; show ∀ k, k < 4 → tyJ3 k ≠ .char ∧ tyJ3 k ≠ .short; decide +kernel
  | c + 17, h => simp [zcl] at h
section ZMAIN2
variable {p : Program} {l : Launch} {e : Env} {R : Room} {s : State} {m : MethodId} {args : Array Value} {below : List Frame} {meth : Method} {c : Code} {Q : State → Prop}
variable {cc : ByteArray} {pc nxt len nL d : Nat} {D : zD} {E : zE} {M M0 M9 : zM} {own : String} {lg : Bool} {rt : Option FieldType} {ini : Prop} {o : Option zV ⊕ Nat} {ls : zL} {st : List zV} {zml : List zY} {hh : List Nat} {i : Instr} {v : Int32} {x : List Nat}
variable {cf : Nat → List zV → zM → Option zR} {bk : Nat → zL → List zV → zM → Option zR} {k : zL → List zV → zM → Option zR}
def zgv (M : zM) (a j tg : Nat) : Value := if tg = 1 then .int (mI M a j) else if tg = 2 then va_rf (mJ M a j) else .long (mG M a j)
theorem ztg_val {ci j tg : Nat} {q : vw_C} (hc : zcl[ci]? = some q) (hj : j < q.2.2) (h : ztg (zty ci j) = tg) (a : Nat) : zval M a j (zty ci j) = zgv M a j tg := by
  have := znf ci q hc j hj
  subst h
  cases hz : zty ci j <;> simp_all [ztg, zval, zgv]
theorem zs_getfield_ok {idx : Nat} (hF : zFx p s m args meth c D E own cc nL ini) (hk : ∀ (ls : zL) (st : List zV) (M : zM), k ls st M = some (o, M9) → zGo p l e R s m args below meth c Q D E nL lg M0 M9 nxt ls st M) (h : zst E cf bk hh k pc (.getfield idx) v x ls st M = some (o, M9)) (hd : decode cc pc = .ok (.getfield idx, len)) (hl : zlk zml own nL lg rt ini pc len nxt (.getfield idx) v x) : zGo p l e R s m args below meth c Q D E nL lg M0 M9 pc ls st M := by
  obtain ⟨hx, hb, hml, hown, hts, hG, hini⟩ := hF
  obtain ⟨rfl, rfl, tg, j, ks, rfl, hks⟩ := hl
  obtain ⟨ob, r, rfl, h1⟩ := zpr_inv h
  obtain ⟨a, rfl, h2⟩ := zdr_inv h1
  obtain ⟨h3, h4⟩ := zif_inv h2
  obtain ⟨ci, q, e1, e2, e3, e4, e5⟩ := hks _ (zkb_inv h3)
  have e6 := ztg_val (M := M) e2 e3 e4 a
  have hlk : (Cond.fieldLink own idx (q.2.1 j).1 (q.2.1 j).2.1 (q.2.1 j).2.2.1).before args s = true ∨ ∃ host : String, (Cond.fieldLinkNest own idx (q.2.1 j).1 (q.2.1 j).2.1 (q.2.1 j).2.2.1 host).before args s = true := by
    rcases e5 with e5 | ⟨host, e5⟩
    · exact Or.inl (hts _ e5)
    · exact Or.inr ⟨host, va_Nw.use rfl (hG.2.1 _ e5)⟩
  match tg, h4, e6 with
  | 1, h4, e6 =>
    obtain ⟨hm, hw⟩ := hk _ _ _ h4
    exact ⟨hm, fun arr H locs g1 g2 g3 g4 g5 => z_get hx hb hG.1 g2 e2 e1 e3 hts hown hlk hd (by rw [e6]; exact hw arr H locs g1 g2 g3 g4 g5)⟩
  | 2, h4, e6 =>
    obtain ⟨hm, hw⟩ := hk _ _ _ h4
    exact ⟨hm, fun arr H locs g1 g2 g3 g4 g5 => z_get hx hb hG.1 g2 e2 e1 e3 hts hown hlk hd (by rw [e6]; exact hw arr H locs g1 g2 g3 g4 g5)⟩
  | 0, h4, e6 =>
    obtain ⟨hm, hw⟩ := hk _ _ _ h4
    exact ⟨hm, fun arr H locs g1 g2 g3 g4 g5 => z_get hx hb hG.1 g2 e2 e1 e3 hts hown hlk hd (by rw [e6]; exact hw arr H locs g1 g2 g3 g4 g5)⟩
  | n + 3, h4, e6 =>
    obtain ⟨hm, hw⟩ := hk _ _ _ h4
    exact ⟨hm, fun arr H locs g1 g2 g3 g4 g5 => z_get hx hb hG.1 g2 e2 e1 e3 hts hown hlk hd (by rw [e6]; exact hw arr H locs g1 g2 g3 g4 g5)⟩
/-- a field write of any kind -/
theorem zs_put {idx a j tg : Nat} {w : zV} {r : List zV} {M1 : zM} (hF : zFx p s m args meth c D E own cc nL ini) (hk : ∀ (ls : zL) (st : List zV) (M : zM), k ls st M = some (o, M9) → zGo p l e R s m args below meth c Q D E nL lg M0 M9 (pc + 3) ls st M) (h : k ls r M1 = some (o, M9)) (hd : decode cc pc = .ok (.putfield idx, 3)) (hks : zfp own ini idx (mK M a) j tg) (hB : E.1 ≤ a)
    (hn : ∀ t : FieldType, zpg t = tg → narrow t (zvv w) = zvv w ∧ fits t (zvv w) = true) (hS : mS M1 = mS M) (hU : mU M1 = mU M) (hKK : mK M1 = mK M) (hNN : mN M1 = mN M) (hJ : ∀ b j, b ≠ a → mJ M1 b j = mJ M b j) (hI : ∀ b j, b ≠ a → mI M1 b j = mI M b j) (hG9 : ∀ b j, b ≠ a → mG M1 b j = mG M b j)
    (hv : ∀ (t : FieldType) (i : Nat), t ≠ .float ∧ t ≠ .double → (i = j → zpg t = tg) → zval M1 a i t = if i = j then zvv w else zval M a i t) : zGo p l e R s m args below meth c Q D E nL lg M0 M9 pc ls (w :: zr (some a) :: r) M := by
  obtain ⟨hx, hb, hml, hown, hts, hG, hini⟩ := hF
  obtain ⟨ci, q, e1, e2, e3, e4, e5⟩ := hks
  obtain ⟨hm, hw⟩ := hk _ _ _ h
  rw [hS, hU] at hm
  refine ⟨hm, fun arr H locs g1 g2 g3 g4 g5 => ?_⟩
  have hlk : ((Cond.fieldLink own idx (q.2.1 j).1 (q.2.1 j).2.1 (q.2.1 j).2.2.1).before args s = true ∧ ((q.2.1 j).2.2.2 = true → meth.name = "<init>" ∧ (q.2.1 j).1 = own)) ∨ ((q.2.1 j).2.2.2 = false ∧ ∃ host : String, (Cond.fieldLinkNest own idx (q.2.1 j).1 (q.2.1 j).2.1 (q.2.1 j).2.2.1 host).before args s = true) := by
    rcases e5 with ⟨e5, e6⟩ | ⟨e6, host, e5⟩
    · exact Or.inl ⟨hts _ e5, fun hf => ⟨hini (e6 hf).1, (e6 hf).2⟩⟩
    · exact Or.inr ⟨e6, host, va_Nw.use rfl (hG.2.1 _ e5)⟩
  obtain ⟨n1, n2⟩ := hn _ e4
  refine z_put (M' := M1) hx hb hG.1 g2 g3 e2 e1 e3 hts hown hB hlk hd n1 n2 hS hKK hNN hJ hI hG9 (fun i => ?_) (fun H' locs' k1 k2 => ?_)
  · by_cases hi : i = j
    · subst hi
      exact hv _ _ (znf ci q e2 i e3) (fun _ => e4)
    · by_cases hiN : i < q.2.2
      · exact hv _ _ (znf ci q e2 i hiN) (fun h => absurd h hi)
      · cases hz : zty ci i with
        | float => rw [if_neg hi]; have := hv .int i ⟨(by decide), (by decide)⟩ (fun h => absurd h hi); rw [if_neg hi] at this; exact this
        | double => rw [if_neg hi]; have := hv .int i ⟨(by decide), (by decide)⟩ (fun h => absurd h hi); rw [if_neg hi] at this; exact this
        | _ => exact hv _ _ ⟨(by simp), (by simp)⟩ (fun h => absurd h hi)
  · have h9 := hw arr H' locs' g1 k1 k2 (by rw [hS]; exact g4) (by rw [hU]; exact g5)
    rw [hS, hU] at h9
    exact h9
theorem zup_s {α : Type} (f : Nat → Nat → α) (a j : Nat) (w : α) (i : Nat) : zup f a j w a i = if i = j then w else f a i := by
  unfold zup
  by_cases h : i = j <;> simp [h]
theorem zup_o {α : Type} (f : Nat → Nat → α) (a j : Nat) (w : α) (b i : Nat) (h : b ≠ a) : zup f a j w b i = f b i := if_neg (fun q => h q.1)
theorem z_byte {w : Int32} (h : w.toInt8.toInt32 = w) : fits .byte (.int w) = true := by
  rw [← h]
  exact pk_fb w
theorem zs_putfield_ok {idx : Nat} (hF : zFx p s m args meth c D E own cc nL ini) (hk : ∀ (ls : zL) (st : List zV) (M : zM), k ls st M = some (o, M9) → zGo p l e R s m args below meth c Q D E nL lg M0 M9 nxt ls st M) (h : zst E cf bk hh k pc (.putfield idx) v x ls st M = some (o, M9)) (hd : decode cc pc = .ok (.putfield idx, len)) (hl : zlk zml own nL lg rt ini pc len nxt (.putfield idx) v x) : zGo p l e R s m args below meth c Q D E nL lg M0 M9 pc ls st M := by
  obtain ⟨rfl, rfl, tg, j, ks, rfl, hks⟩ := hl
  have hI : ∀ (a : Nat) (w : Int32) (t : FieldType) (i : Nat), t ≠ .float ∧ t ≠ .double → (i = j → zpg t = 0 ∨ zpg t = 1 ∨ zpg t = 4) → zval (sI M a j w) a i t = if i = j then Value.int w else zval M a i t := by
    intro a w t i hf ht
    have e1 : mI (sI M a j w) a i = if i = j then w else mI M a i := zup_s _ _ _ _ _
    have e2 : mJ (sI M a j w) = mJ M := rfl
    have e3 : mG (sI M a j w) = mG M := rfl
    by_cases hi : i = j
    · have h9 := ht hi
      cases t <;> simp_all [zval, zpg]
    · cases t <;> simp_all [zval]
  match tg, h, hks with
  | 0, h, hks =>
    obtain ⟨w, r1, rfl, h1⟩ := zp1_inv (show zp1 st (fun w r => zpr r fun o r => zdr o fun a => zif (zkb (mK M a) ks) (zif (Nat.ble E.1 a) (zif (w == 0 || w == 1) (k ls r (sI M a j w))))) = some (o, M9) from h)
    obtain ⟨ob, r, rfl, h2⟩ := zpr_inv h1
    obtain ⟨a, rfl, h3⟩ := zdr_inv h2
    obtain ⟨h4, h5⟩ := zif_inv h3
    obtain ⟨h6, h7⟩ := zif_inv h5
    obtain ⟨h8, h9⟩ := zif_inv h7
    refine zs_put (w := zi w) hF hk h9 hd (hks _ (zkb_inv h4)) (Nat.le_of_ble_eq_true h6) (fun t ht => ?_) rfl rfl rfl rfl (fun _ _ _ => rfl) (fun b i hb => zup_o _ _ _ _ _ _ hb) (fun _ _ _ => rfl) (fun t i hf ht => hI a w t i hf (fun hi => Or.inl (ht hi)))
    have hw : w = 0 ∨ w = 1 := by simpa using h8
    cases t <;> simp [zpg] at ht
    rcases hw with rfl | rfl <;> exact ⟨by decide, by decide⟩
  | 1, h, hks =>
    obtain ⟨w, r1, rfl, h1⟩ := zp1_inv (show zp1 st (fun w r => zpr r fun o r => zdr o fun a => zif (zkb (mK M a) ks) (zif (Nat.ble E.1 a) (k ls r (sI M a j w)))) = some (o, M9) from h)
    obtain ⟨ob, r, rfl, h2⟩ := zpr_inv h1
    obtain ⟨a, rfl, h3⟩ := zdr_inv h2
    obtain ⟨h4, h5⟩ := zif_inv h3
    obtain ⟨h6, h9⟩ := zif_inv h5
    refine zs_put (w := zi w) hF hk h9 hd (hks _ (zkb_inv h4)) (Nat.le_of_ble_eq_true h6) (fun t ht => ?_) rfl rfl rfl rfl (fun _ _ _ => rfl) (fun b i hb => zup_o _ _ _ _ _ _ hb) (fun _ _ _ => rfl) (fun t i hf ht => hI a w t i hf (fun hi => Or.inr (Or.inl (ht hi))))
    cases t <;> simp [zpg] at ht
    exact ⟨rfl, rfl⟩
  | 2, h, hks =>
    obtain ⟨w, r1, rfl, h1⟩ := zpr_inv (show zpr st (fun w r => zpr r fun o r => zdr o fun a => zif (zkb (mK M a) ks) (zif (Nat.ble E.1 a) (k ls r (sJ M a j w)))) = some (o, M9) from h)
    obtain ⟨ob, r, rfl, h2⟩ := zpr_inv h1
    obtain ⟨a, rfl, h3⟩ := zdr_inv h2
    obtain ⟨h4, h5⟩ := zif_inv h3
    obtain ⟨h6, h9⟩ := zif_inv h5
    refine zs_put (w := zr w) hF hk h9 hd (hks _ (zkb_inv h4)) (Nat.le_of_ble_eq_true h6) (fun t ht => ?_) rfl rfl rfl rfl (fun b i hb => zup_o _ _ _ _ _ _ hb) (fun _ _ _ => rfl) (fun _ _ _ => rfl) (fun t i hf ht => ?_)
    · cases t <;> simp [zpg] at ht <;> (cases w <;> exact ⟨rfl, rfl⟩)
    · have e1 : mJ (sJ M a j w) a i = if i = j then w else mJ M a i := zup_s _ _ _ _ _
      have e2 : mI (sJ M a j w) = mI M := rfl
      have e3 : mG (sJ M a j w) = mG M := rfl
      by_cases hi : i = j
      · have h9 := ht hi
        cases t <;> simp_all [zval, zpg, zvv, zr]
      · cases t <;> simp_all [zval]
  | 3, h, hks =>
    obtain ⟨w, r1, rfl, h1⟩ := zpl_inv (show zpl st (fun w r => zpr r fun o r => zdr o fun a => zif (zkb (mK M a) ks) (zif (Nat.ble E.1 a) (k ls r (sG M a j w)))) = some (o, M9) from h)
    obtain ⟨ob, r, rfl, h2⟩ := zpr_inv h1
    obtain ⟨a, rfl, h3⟩ := zdr_inv h2
    obtain ⟨h4, h5⟩ := zif_inv h3
    obtain ⟨h6, h9⟩ := zif_inv h5
    refine zs_put (w := zl w) hF hk h9 hd (hks _ (zkb_inv h4)) (Nat.le_of_ble_eq_true h6) (fun t ht => ?_) rfl rfl rfl rfl (fun _ _ _ => rfl) (fun _ _ _ => rfl) (fun b i hb => zup_o _ _ _ _ _ _ hb) (fun t i hf ht => ?_)
    · cases t <;> simp [zpg] at ht
      exact ⟨rfl, rfl⟩
    · have e1 : mG (sG M a j w) a i = if i = j then w else mG M a i := zup_s _ _ _ _ _
      have e2 : mI (sG M a j w) = mI M := rfl
      have e3 : mJ (sG M a j w) = mJ M := rfl
      by_cases hi : i = j
      · have h9 := ht hi
        cases t <;> simp_all [zval, zpg, zvv, zl]
      · cases t <;> simp_all [zval]
  | n + 4, h, hks =>
    obtain ⟨w, r1, rfl, h1⟩ := zp1_inv (show zp1 st (fun w r => zpr r fun o r => zdr o fun a => zif (zkb (mK M a) ks) (zif (Nat.ble E.1 a) (zif (w.toInt8.toInt32 == w) (k ls r (sI M a j w))))) = some (o, M9) from h)
    obtain ⟨ob, r, rfl, h2⟩ := zpr_inv h1
    obtain ⟨a, rfl, h3⟩ := zdr_inv h2
    obtain ⟨h4, h5⟩ := zif_inv h3
    obtain ⟨h6, h7⟩ := zif_inv h5
    obtain ⟨h8, h9⟩ := zif_inv h7
    have hw : w.toInt8.toInt32 = w := by simpa using h8
    have h10 := hks _ (zkb_inv h4)
    by_cases hn0 : n = 0
    · subst hn0
      refine zs_put (w := zi w) hF hk h9 hd h10 (Nat.le_of_ble_eq_true h6) (fun t ht => ?_) rfl rfl rfl rfl (fun _ _ _ => rfl) (fun b i hb => zup_o _ _ _ _ _ _ hb) (fun _ _ _ => rfl) (fun t i hf ht => hI a w t i hf (fun hi => Or.inr (Or.inr (ht hi))))
      cases t <;> simp [zpg] at ht
      refine ⟨?_, z_byte hw⟩
      show Value.int w.toInt8.toInt32 = _
      rw [hw]; rfl
    · exfalso
      obtain ⟨ci, q, e1, e2, e3, e4, e5⟩ := h10
      have hfd := znf ci q e2 j e3
      have h9 := zno9 ci q e2 j e3
      generalize zty ci j = t at e4 hfd h9
      cases t <;> simp [zpg] at e4 hfd h9 <;> omega
end ZMAIN2
