/-! ===== runs, fuel left out ===== -/
/-- from some fuel on -/
def zEv (f : Nat → Option zR) (r : zR) : Prop := ∃ n0, ∀ n, n0 ≤ n → f n = some r
/-- method y at depth d comes from pc to r -/
def zAt (E : zE) (d y pc : Nat) (ls : zL) (st : List zV) (M : zM) (r : zR) : Prop := zEv (fun n => zX E zPm n d y pc ls st M) r
/-- a call -/
def zCl (E : zE) (d y : Nat) (as : List zV) (M : zM) (r : zR) : Prop := zAt E d y 0 (zini as (zPm y).2.2) [] M r
section ZEV
variable {E : zE} {d y pc : Nat} {ls : zL} {st : List zV} {M M1 : zM} {r : zR} {code c' : zC} {hh : List Nat} {L : Nat} {as : List zV}
theorem zat_in (hP : zPm y = (code, hh, L)) (hk : zsk pc code = c') (h : zEv (fun n => zex E (zcfX E zPm n d) (fun t ls st M => zX E zPm n d y t ls st M) hh c' ls st M) r) : zAt E d y pc ls st M r := by
  obtain ⟨n0, h⟩ := h
  refine ⟨n0 + 1, fun n hn => ?_⟩
  obtain ⟨k, rfl⟩ : ∃ k, n = k + 1 := ⟨n - 1, by omega⟩
  show zX E zPm (k + 1) d y pc ls st M = some r
  rw [zX_eq, hP]
  show zex E (zcfX E zPm k d) _ hh (zsk pc code) ls st M = some r
  rw [hk]
  exact h k (by omega)
theorem zcl_in' (hP : zPm y = (code, hh, L)) (h : zAt E d y 0 (zini as L) [] M r) : zCl E d y as M r := by
  unfold zCl
  rw [hP]
  exact h
theorem ev_bk (h : zAt E d y pc ls st M r) : zEv (fun n => zX E zPm n d y pc ls st M) r := h
theorem ev_r : zEv (fun _ => some r) r := ⟨0, fun _ _ => rfl⟩
theorem ev_th {f : Nat → Option zR} (c : Prop) [Decidable c] {g : Nat → Option zR} (h1 : c → zEv f r) (h2 : ¬ c → zEv g r) : zEv (fun n => if c then f n else g n) r := by
  by_cases hc : c
  · obtain ⟨n0, h⟩ := h1 hc
    exact ⟨n0, fun n hn => by show (if c then f n else g n) = some r; rw [if_pos hc]; exact h n hn⟩
  · obtain ⟨n0, h⟩ := h2 hc
    exact ⟨n0, fun n hn => by show (if c then f n else g n) = some r; rw [if_neg hc]; exact h n hn⟩
theorem ev_cl (hc : zCl E d y as M r) : ∃ n0, ∀ n, n0 ≤ n → zcfX E zPm n (d + 1) y as M = some r := hc
theorem ev_cv {th : Nat → Nat → zM → Option zR} {f : Nat → zM → Option zR} (hc : zCl E d y as M (Sum.inl none, M1)) (h : zEv (fun n => f n M1) r) : zEv (fun n => zcv (zcfX E zPm n (d + 1) y as M) (th n) (f n)) r := by
  obtain ⟨n0, h0⟩ := ev_cl hc
  obtain ⟨n1, h1⟩ := h
  exact ⟨n0 + n1, fun n hn => by show zcv (zcfX E zPm n (d + 1) y as M) (th n) (f n) = some r; rw [h0 n (by omega)]; exact h1 n (by omega)⟩
theorem ev_ci {x : Int32} {th : Nat → Nat → zM → Option zR} {f : Nat → Int32 → zM → Option zR} (hc : zCl E d y as M (Sum.inl (some (zi x)), M1)) (h : zEv (fun n => f n x M1) r) : zEv (fun n => zci (zcfX E zPm n (d + 1) y as M) (th n) (f n)) r := by
  obtain ⟨n0, h0⟩ := ev_cl hc
  obtain ⟨n1, h1⟩ := h
  exact ⟨n0 + n1, fun n hn => by show zci (zcfX E zPm n (d + 1) y as M) (th n) (f n) = some r; rw [h0 n (by omega)]; exact h1 n (by omega)⟩
theorem ev_cr {x : Option Nat} {th : Nat → Nat → zM → Option zR} {f : Nat → Option Nat → zM → Option zR} (hc : zCl E d y as M (Sum.inl (some (zr x)), M1)) (h : zEv (fun n => f n x M1) r) : zEv (fun n => zcr (zcfX E zPm n (d + 1) y as M) (th n) (f n)) r := by
  obtain ⟨n0, h0⟩ := ev_cl hc
  obtain ⟨n1, h1⟩ := h
  exact ⟨n0 + n1, fun n hn => by show zcr (zcfX E zPm n (d + 1) y as M) (th n) (f n) = some r; rw [h0 n (by omega)]; exact h1 n (by omega)⟩
theorem ev_cg {x : Int64} {th : Nat → Nat → zM → Option zR} {f : Nat → Int64 → zM → Option zR} (hc : zCl E d y as M (Sum.inl (some (zl x)), M1)) (h : zEv (fun n => f n x M1) r) : zEv (fun n => zcg (zcfX E zPm n (d + 1) y as M) (th n) (f n)) r := by
  obtain ⟨n0, h0⟩ := ev_cl hc
  obtain ⟨n1, h1⟩ := h
  exact ⟨n0 + n1, fun n hn => by show zcg (zcfX E zPm n (d + 1) y as M) (th n) (f n) = some r; rw [h0 n (by omega)]; exact h1 n (by omega)⟩
/-- the same, thrown -/
theorem ev_cvx {q : Nat} {th : Nat → Nat → zM → Option zR} {f : Nat → zM → Option zR} (hc : zCl E d y as M (Sum.inr q, M1)) (h : zEv (fun n => th n q M1) r) : zEv (fun n => zcv (zcfX E zPm n (d + 1) y as M) (th n) (f n)) r := by
  obtain ⟨n0, h0⟩ := ev_cl hc
  obtain ⟨n1, h1⟩ := h
  exact ⟨n0 + n1, fun n hn => by show zcv (zcfX E zPm n (d + 1) y as M) (th n) (f n) = some r; rw [h0 n (by omega)]; exact h1 n (by omega)⟩
theorem ev_cix {q : Nat} {th : Nat → Nat → zM → Option zR} {f : Nat → Int32 → zM → Option zR} (hc : zCl E d y as M (Sum.inr q, M1)) (h : zEv (fun n => th n q M1) r) : zEv (fun n => zci (zcfX E zPm n (d + 1) y as M) (th n) (f n)) r := by
  obtain ⟨n0, h0⟩ := ev_cl hc
  obtain ⟨n1, h1⟩ := h
  exact ⟨n0 + n1, fun n hn => by show zci (zcfX E zPm n (d + 1) y as M) (th n) (f n) = some r; rw [h0 n (by omega)]; exact h1 n (by omega)⟩
theorem ev_crx {q : Nat} {th : Nat → Nat → zM → Option zR} {f : Nat → Option Nat → zM → Option zR} (hc : zCl E d y as M (Sum.inr q, M1)) (h : zEv (fun n => th n q M1) r) : zEv (fun n => zcr (zcfX E zPm n (d + 1) y as M) (th n) (f n)) r := by
  obtain ⟨n0, h0⟩ := ev_cl hc
  obtain ⟨n1, h1⟩ := h
  exact ⟨n0 + n1, fun n hn => by show zcr (zcfX E zPm n (d + 1) y as M) (th n) (f n) = some r; rw [h0 n (by omega)]; exact h1 n (by omega)⟩
theorem ev_tl {nx : Nat} (hP : zPm y = (code, hh, L)) (hk : zsk nx code = c') (h : zAt E d y nx ls st M r) : zEv (fun n => zex E (zcfX E zPm n d) (fun t ls st M => zX E zPm n d y t ls st M) hh c' ls st M) r := by
  obtain ⟨n0, h⟩ := h
  refine ⟨n0, fun n hn => ?_⟩
  have h1 := h (n + 1) (by omega)
  have h1 : zX E zPm (n + 1) d y nx ls st M = some r := h1
  rw [zX_eq, hP] at h1
  have h1 : zex E (zcfX E zPm n d) _ hh (zsk nx code) ls st M = some r := h1
  rw [hk] at h1
  exact h1
theorem zif_t {b : Bool} {x : Option zR} (h : b = true) : zif b x = x := by subst h; rfl
theorem zdr_s {a : Nat} {f : Nat → Option zR} : zdr (some a) f = f a := rfl
end ZEV
/-! a memory whose ints alone change -/
def zwi (S : zM) (I : Nat → Nat → Int32) : zM := (mK S, mN S, mJ S, I, mG S, mS S, mU S)
section ZWI
variable {S : zM} {I : Nat → Nat → Int32}
theorem zwi_rf (M : zM) : zwi M (mI M) = M := rfl
theorem mK_wi : mK (zwi S I) = mK S := rfl
theorem mN_wi : mN (zwi S I) = mN S := rfl
theorem mJ_wi : mJ (zwi S I) = mJ S := rfl
theorem mI_wi : mI (zwi S I) = I := rfl
theorem mG_wi : mG (zwi S I) = mG S := rfl
theorem mS_wi : mS (zwi S I) = mS S := rfl
theorem mU_wi : mU (zwi S I) = mU S := rfl
theorem sI_wi {a k : Nat} {v : Int32} : sI (zwi S I) a k v = zwi S (zup I a k v) := rfl
theorem wi_wi {J : Nat → Nat → Int32} : zwi (zwi S I) J = zwi S J := rfl
end ZWI
/-! small numbers -/
theorem i_int {a : Nat} (h : a < 2147483648) : (Int32.ofNat a).toInt = (a : Int) := nI_toInt h
theorem i_le {a b : Nat} (ha : a < 2147483648) (hb : b < 2147483648) : (Int32.ofNat a ≤ Int32.ofNat b) = (a ≤ b) := by
  rw [Int32.le_iff_toInt_le, i_int ha, i_int hb]
  exact propext Int.ofNat_le
theorem i_lt {a b : Nat} (ha : a < 2147483648) (hb : b < 2147483648) : (Int32.ofNat a < Int32.ofNat b) = (a < b) := by
  rw [Int32.lt_iff_toInt_lt, i_int ha, i_int hb]
  exact propext Int.ofNat_lt
theorem i_eq {a b : Nat} (ha : a < 2147483648) (hb : b < 2147483648) : (Int32.ofNat a = Int32.ofNat b) = (a = b) := by
  rw [← Int32.toInt_inj, i_int ha, i_int hb]
  exact propext Int.ofNat_inj
theorem i_cl {a : Nat} (ha : a < 2147483648) : (Int32.ofNat a).toNatClampNeg = a := by
  show (Int32.ofNat a).toInt.toNat = a
  rw [i_int ha]
  rfl
theorem i_zix {a n : Nat} (ha : a < 2147483648) : zix (Int32.ofNat a) n = decide (a < n) := by
  unfold zix
  rw [i_cl ha]
  have : (0 : Int32) ≤ Int32.ofNat a := by
    rw [Int32.le_iff_toInt_le, i_int ha]
    exact Int.natCast_nonneg a
  rw [decide_eq_true this, Bool.true_and]
theorem i_add {a b : Nat} : Int32.ofNat a + Int32.ofNat b = Int32.ofNat (a + b) := by rw [Int32.ofNat_add]
theorem i_succ {a : Nat} : Int32.ofNat a + 1 = Int32.ofNat (a + 1) := by
  rw [Int32.ofNat_add]
  rfl
