/-! ===== the heap that holds a memory ===== -/
def zcl : List vw_C := [(RX0, TX0, 16), (RX1, TX1, 9), (RX2, TX2, 9), (RX3, TX3, 8), (RX4, TX4, 20), (RX5, TX5, 3), (RX6, TX6, 40), (RX7, TX7, 24), (RX8, TX8, 8), (RX9, TX9, 2), (RX10, TX10, 3), (RX11, TX11, 3), (RX13, TX13, 4), (RX14, TX14, 4), (RX15, TX15, 2), (RX16, TX16, 3), (RJ3, TJ3, 4)]
def zty (c : Nat) : Nat → FieldType := match c with
  | 0 => tyX0
  | 1 => tyX1
  | 2 => tyX2
  | 3 => tyX3
  | 4 => tyX4
  | 5 => tyX5
  | 6 => tyX6
  | 7 => tyX7
  | 8 => tyX8
  | 9 => tyX9
  | 10 => tyX10
  | 11 => tyX11
  | 12 => tyX13
  | 13 => tyX14
  | 14 => tyX15
  | 15 => tyX16
  | _ => tyJ3
def zat : List FieldType := [.int, .byte, .char, .boolean, .object "SledHouse$Dog", .object "SledHouse$Team", .object "SledHouse$Test", .object "SledHouse$Rule", .object "SledHouse$Plan", .object "SledHouse$Law", .object "SledHouseModel$Team"]
/-- the numbers of the classes, the slots of their fields, the numbers of the array classes -/
abbrev zD : Type := va_G × (Nat → ClassId)
def ztl (f : Nat → ClassId) : List (ClassId × FieldType) := [(f 0, .int), (f 1, .byte), (f 2, .char), (f 3, .boolean), (f 4, .object "SledHouse$Dog"), (f 5, .object "SledHouse$Team"), (f 6, .object "SledHouse$Test"), (f 7, .object "SledHouse$Rule"), (f 8, .object "SledHouse$Plan"), (f 9, .object "SledHouse$Law"), (f 10, .object "SledHouseModel$Team")]
theorem zcl_in : ∀ (c : Nat) (q : vw_C), zcl[c]? = some q → (∀ w ∈ u_ws q.1 q.2.1 q.2.2, w ∈ lw_all) ∧ (∀ k, k < q.2.2 → parseFieldDescriptor (q.2.1 k).2.2.1 = some (zty c k)) ∧ (∀ a, a < q.2.2 → ∀ b, b < q.2.2 → a ≠ b → (q.2.1 a).2.1 ≠ (q.2.1 b).2.1) := by
  intro c q h
  match c, h with
  | 0, h => cases h; exact ⟨in_X0, tyX0_ok, nmX0⟩
  | 1, h => cases h; exact ⟨in_X1, tyX1_ok, nmX1⟩
  | 2, h => cases h; exact ⟨in_X2, tyX2_ok, nmX2⟩
  | 3, h => cases h; exact ⟨in_X3, tyX3_ok, nmX3⟩
  | 4, h => cases h; exact ⟨in_X4, tyX4_ok, nmX4⟩
  | 5, h => cases h; exact ⟨in_X5, tyX5_ok, nmX5⟩
  | 6, h => cases h; exact ⟨in_X6, tyX6_ok, nmX6⟩
  | 7, h => cases h; exact ⟨in_X7, tyX7_ok, nmX7⟩
  | 8, h => cases h; exact ⟨in_X8, tyX8_ok, nmX8⟩
  | 9, h => cases h; exact ⟨in_X9, tyX9_ok, nmX9⟩
  | 10, h => cases h; exact ⟨in_X10, tyX10_ok, nmX10⟩
  | 11, h => cases h; exact ⟨in_X11, tyX11_ok, nmX11⟩
  | 12, h => cases h; exact ⟨in_X13, tyX13_ok, nmX13⟩
  | 13, h => cases h; exact ⟨in_X14, tyX14_ok, nmX14⟩
  | 14, h => cases h; exact ⟨in_X15, tyX15_ok, nmX15⟩
  | 15, h => cases h; exact ⟨in_X16, tyX16_ok, nmX16⟩
  | 16, h => cases h; exact ⟨in_J3, tyJ3_ok, nmJ3⟩
  | c + 17, h => simp [zcl] at h
theorem zcl_lt {c : Nat} {q : vw_C} (h : zcl[c]? = some q) : c < 17 := (List.getElem?_eq_some_iff.mp h).1
theorem zat_lt {i : Nat} {t : FieldType} (h : zat[i]? = some t) : i < 11 := (List.getElem?_eq_some_iff.mp h).1
theorem ztl_at {f : Nat → ClassId} {i : Nat} {t : FieldType} (h : zat[i]? = some t) : (ztl f)[i]? = some (f i, t) := by
  match i, h with
  | 0, h => cases h; rfl
  | 1, h => cases h; rfl
  | 2, h => cases h; rfl
  | 3, h => cases h; rfl
  | 4, h => cases h; rfl
  | 5, h => cases h; rfl
  | 6, h => cases h; rfl
  | 7, h => cases h; rfl
  | 8, h => cases h; rfl
  | 9, h => cases h; rfl
  | 10, h => cases h; rfl
  | i + 11, h => simp [zat] at h
def zval (M : zM) (a k : Nat) (t : FieldType) : Value := match t with
  | .long => .long (mG M a k)
  | .object _ => va_rf (mJ M a k)
  | .array _ => va_rf (mJ M a k)
  | _ => .int (mI M a k)
def zO (D : zD) (B : Nat) (M : zM) (H : Heap) (a c N : Nat) : Prop := ∃ cell : Cell, H[a]? = some cell ∧ cell.cls = D.1.1 c ∧ cell.vm.isStatics = false ∧ cell.vm ≠ .unknown ∧ (B ≤ a → cell.vm = .none) ∧ ∀ k, k < N → cell.slots[D.1.2 c k]? = some (zval M a k (zty c k))
def zA (D : zD) (B : Nat) (s : State) (M : zM) (H : Heap) (a i : Nat) (t : FieldType) : Prop := ∃ cell : Cell, H[a]? = some cell ∧ s.isArrayOf cell t ∧ cell.vm ≠ .unknown ∧ cell.slots.size = mN M a ∧ mN M a < 2147483648 ∧ (∀ j, j < mN M a → cell.slots[j]? = some (zval M a j t)) ∧ (B ≤ a → cell = arrV (D.2 i) (mN M a) (fun j => zval M a j t))
def zRep (D : zD) (E : zE) (s : State) (M : zM) (H : Heap) : Prop := H.size = mS M ∧ (E.1 ≤ mS M ∧ ∀ a, mK M a ≤ 111) ∧ (∀ (a c : Nat) (q : vw_C), zcl[c]? = some q → mK M a = c + 1 → zO D E.1 M H a c q.2.2) ∧ ∀ (a i : Nat) (t : FieldType), zat[i]? = some t → mK M a = 101 + i → zA D E.1 s M H a i t
theorem zRep.moved {D : zD} {E : zE} {u U : State} {M : zM} {H : Heap} (hvm : u.vm.Alike U.vm) (h : zRep D E u M H) : zRep D E U M H := by
  refine ⟨h.1, h.2.1, h.2.2.1, fun a i t hi hk => ?_⟩
  obtain ⟨cell, h1, h2, h3⟩ := h.2.2.2 a i t hi hk
  exact ⟨cell, h1, State.isArrayOf_alike hvm h2, h3⟩
/-- a store into one cell: what it must do there -/
theorem zRep.put {D : zD} {E : zE} {s : State} {M M' : zM} {H H' : Heap} {a : Nat} (h : zRep D E s M H) (hz : H'.size = H.size) (oq : ∀ q : Nat, q ≠ a → H'[q]? = H[q]?) (hS : mS M' = mS M) (hK : mK M' = mK M) (hN : mN M' = mN M)
    (hJ : ∀ b k, b ≠ a → mJ M' b k = mJ M b k) (hI : ∀ b k, b ≠ a → mI M' b k = mI M b k) (hG : ∀ b k, b ≠ a → mG M' b k = mG M b k)
    (hO : ∀ (c : Nat) (q : vw_C), zcl[c]? = some q → mK M a = c + 1 → zO D E.1 M' H' a c q.2.2) (hA : ∀ (i : Nat) (t : FieldType), zat[i]? = some t → mK M a = 101 + i → zA D E.1 s M' H' a i t) : zRep D E s M' H' := by
  have hv : ∀ (b k : Nat) (t : FieldType), b ≠ a → zval M' b k t = zval M b k t := by
    intro b k t hb
    cases t <;> simp [zval, hJ b k hb, hI b k hb, hG b k hb]
  refine ⟨by rw [hz, hS]; exact h.1, ⟨by rw [hS]; exact h.2.1.1, fun b => by rw [hK]; exact h.2.1.2 b⟩, fun b c q hc hk => ?_, fun b i t hi hk => ?_⟩
  · rw [hK] at hk
    by_cases hb : b = a
    · subst hb; exact hO c q hc hk
    · obtain ⟨cell, h1, h2, h3, h4, h5, h6⟩ := h.2.2.1 b c q hc hk
      exact ⟨cell, by rw [oq b hb]; exact h1, h2, h3, h4, h5, fun k hk' => by rw [hv b k _ hb]; exact h6 k hk'⟩
  · rw [hK] at hk
    by_cases hb : b = a
    · subst hb; exact hA i t hi hk
    · obtain ⟨cell, h1, h2, h3, h4, h5, h6, h7⟩ := h.2.2.2 b i t hi hk
      have e : (fun j => zval M' b j t) = (fun j => zval M b j t) := funext fun j => hv b j t hb
      exact ⟨cell, by rw [oq b hb]; exact h1, h2, h3, by rw [hN]; exact h4, by rw [hN]; exact h5, fun j hj => by rw [hv b j _ hb]; exact h6 j (by rw [hN] at hj; exact hj), fun hB => by rw [hN, e]; exact h7 hB⟩
/-- a new cell -/
theorem zRep.grow {D : zD} {E : zE} {s : State} {M : zM} {H H' : Heap} {κ n w : Nat} (h : zRep D E s M H) (hκ : κ ≤ 111) (hz : H'.size = H.size + 1) (oq : ∀ q : Nat, q < H.size → H'[q]? = H[q]?)
    (hO : ∀ (c : Nat) (q : vw_C), zcl[c]? = some q → κ = c + 1 → zO D E.1 (zal M κ n w) H' (mS M) c q.2.2) (hA : ∀ (i : Nat) (t : FieldType), zat[i]? = some t → κ = 101 + i → zA D E.1 s (zal M κ n w) H' (mS M) i t) : zRep D E s (zal M κ n w) H' := by
  have hv : ∀ (b k : Nat) (t : FieldType), b ≠ mS M → zval (zal M κ n w) b k t = zval M b k t := by
    intro b k t hb
    have hJ : mJ (zal M κ n w) b k = mJ M b k := if_neg hb
    have hI : mI (zal M κ n w) b k = mI M b k := if_neg hb
    have hG : mG (zal M κ n w) b k = mG M b k := if_neg hb
    cases t <;> simp [zval, hJ, hI, hG]
  have hlt : ∀ (b : Nat) (cell : Cell), H[b]? = some cell → b < H.size := fun b cell hb => (Array.getElem?_eq_some_iff.mp hb).1
  have hKn : ∀ b : Nat, b ≠ mS M → mK (zal M κ n w) b = mK M b := fun b hb => by
    show (if b = mS M then κ else mK M b) = _
    rw [if_neg hb]
  have hKs : mK (zal M κ n w) (mS M) = κ := by
    show (if mS M = mS M then κ else mK M (mS M)) = _
    rw [if_pos rfl]
  have hNn : ∀ b : Nat, b ≠ mS M → mN (zal M κ n w) b = mN M b := fun b hb => by
    show (if b = mS M then n else mN M b) = _
    rw [if_neg hb]
  refine ⟨by rw [hz, h.1]; rfl, ⟨Nat.le_trans h.2.1.1 (Nat.le_succ _), fun b => by
    by_cases hb : b = mS M
    · rw [hb, hKs]; exact hκ
    · rw [hKn b hb]; exact h.2.1.2 b⟩, fun b c q hc hk => ?_, fun b i t hi hk => ?_⟩
  · by_cases hb : b = mS M
    · subst hb
      rw [hKs] at hk
      exact hO c q hc hk
    · rw [hKn b hb] at hk
      obtain ⟨cell, h1, h2, h3, h4, h5, h6⟩ := h.2.2.1 b c q hc hk
      exact ⟨cell, by rw [oq b (hlt b cell h1)]; exact h1, h2, h3, h4, h5, fun k hk' => by rw [hv b k _ hb]; exact h6 k hk'⟩
  · by_cases hb : b = mS M
    · subst hb
      rw [hKs] at hk
      exact hA i t hi hk
    · rw [hKn b hb] at hk
      obtain ⟨cell, h1, h2, h3, h4, h5, h6, h7⟩ := h.2.2.2 b i t hi hk
      have e : (fun j => zval (zal M κ n w) b j t) = (fun j => zval M b j t) := funext fun j => hv b j t hb
      exact ⟨cell, by rw [oq b (hlt b cell h1)]; exact h1, h2, h3, by rw [hNn b hb]; exact h4, by rw [hNn b hb]; exact h5, fun j hj => by rw [hv b j _ hb]; exact h6 j (by rw [hNn b hb] at hj; exact hj), fun hB => by rw [hNn b hb, e]; exact h7 hB⟩
