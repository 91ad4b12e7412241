/-! ===== the small machine only makes cells ===== -/
def zmn (M M9 : zM) : Prop := mS M ≤ mS M9 ∧ mU M ≤ mU M9
theorem zmn.rf {M : zM} : zmn M M := ⟨Nat.le_refl _, Nat.le_refl _⟩
theorem zmn.tr {M M1 M9 : zM} (h : zmn M M1) (h2 : zmn M1 M9) : zmn M M9 := ⟨Nat.le_trans h.1 h2.1, Nat.le_trans h.2 h2.2⟩
theorem zal_mn {M M9 : zM} {κ n w : Nat} (h : zmn (zal M κ n w) M9) : zmn M M9 := ⟨Nat.le_trans (Nat.le_succ _) h.1, Nat.le_trans (Nat.le_add_right _ _) h.2⟩
section ZMN
variable {R : zR} {G : Prop}
theorem zdr_M {o : Option Nat} {f : Nat → Option zR} (k : ∀ a, f a = some R → G) : zdr o f = some R → G := fun h => by
  obtain ⟨a, -, h1⟩ := zdr_inv h; exact k a h1
theorem zif_M {b : Bool} {r : Option zR} (k : r = some R → G) : zif b r = some R → G := fun h => k (zif_inv h).2
theorem zli_M {ls : zL} {n : Nat} {f : Int32 → Option zR} (k : ∀ a, f a = some R → G) : zli ls n f = some R → G := fun h => by
  obtain ⟨a, -, h1⟩ := zli_inv h; exact k a h1
theorem zlr_M {ls : zL} {n : Nat} {f : Option Nat → Option zR} (k : ∀ a, f a = some R → G) : zlr ls n f = some R → G := fun h => by
  obtain ⟨a, -, h1⟩ := zlr_inv h; exact k a h1
theorem zll_M {ls : zL} {n : Nat} {f : Int64 → Option zR} (k : ∀ a, f a = some R → G) : zll ls n f = some R → G := fun h => by
  obtain ⟨a, -, h1⟩ := zll_inv h; exact k a h1
theorem zp1_M {st : List zV} {f : Int32 → List zV → Option zR} (k : ∀ a r, f a r = some R → G) : zp1 st f = some R → G := fun h => by
  obtain ⟨a, r, -, h1⟩ := zp1_inv h; exact k a r h1
theorem zp2_M {st : List zV} {f : Int32 → Int32 → List zV → Option zR} (k : ∀ a b r, f a b r = some R → G) : zp2 st f = some R → G := fun h => by
  obtain ⟨b, a, r, -, h1⟩ := zp2_inv h; exact k a b r h1
theorem zpr_M {st : List zV} {f : Option Nat → List zV → Option zR} (k : ∀ a r, f a r = some R → G) : zpr st f = some R → G := fun h => by
  obtain ⟨a, r, -, h1⟩ := zpr_inv h; exact k a r h1
theorem zpl_M {st : List zV} {f : Int64 → List zV → Option zR} (k : ∀ a r, f a r = some R → G) : zpl st f = some R → G := fun h => by
  obtain ⟨a, r, -, h1⟩ := zpl_inv h; exact k a r h1
theorem zpl2_M {st : List zV} {f : Int64 → Int64 → List zV → Option zR} (k : ∀ a b r, f a b r = some R → G) : zpl2 st f = some R → G := fun h => by
  obtain ⟨b, a, r, -, h1⟩ := zpl2_inv h; exact k a b r h1
theorem zpc_M {st : List zV} {f : zV → List zV → Option zR} (k : ∀ a r, f a r = some R → G) : zpc st f = some R → G := fun h => by
  obtain ⟨a, r, -, -, h1⟩ := zpc_inv h; exact k a r h1
theorem ztk_M {n : Nat} {acc st : List zV} {f : List zV → List zV → Option zR} (k : ∀ a r, f a r = some R → G) : ztk n acc st f = some R → G := fun h => by
  obtain ⟨as, r, -, -, -, h1⟩ := ztk_inv h; exact k _ r h1
theorem zvc_M {κ : Nat} {l : List Nat} {f : Nat → Option zR} (k : ∀ y, f y = some R → G) : zvc κ l f = some R → G := fun h => by
  obtain ⟨_, _, y, -, -, h1⟩ := zvc_inv h; exact k y h1
theorem zss_M {ls : zL} {x : List Nat} {w : zV} {f : zL → Option zR} (k : ∀ l, f l = some R → G) : zss ls x w f = some R → G := fun h => by
  unfold zss at h
  split at h
  · cases h
  · exact k _ h
  · split at h
    · cases h
    · exact k _ h
theorem zsw_M {a : Int32} {f : Nat → Option zR} (k : ∀ t, f t = some R → G) : ∀ {l : List Nat} {d : Nat}, zsw a l d f = some R → G
  | [], d, h => k _ h
  | [_], d, h => k _ h
  | c :: t :: l, d, h => by
    have h : (if a = Int32.ofNat c then f t else zsw a l d f) = some R := h
    by_cases hc : a = Int32.ofNat c
    · rw [if_pos hc] at h; exact k _ h
    · rw [if_neg hc] at h; exact zsw_M k h
theorem zite_M {c : Prop} [Decidable c] {r1 r2 : Option zR} (h1 : r1 = some R → G) (h2 : r2 = some R → G) : (if c then r1 else r2) = some R → G := fun h => by
  by_cases hc : c
  · rw [if_pos hc] at h; exact h1 h
  · rw [if_neg hc] at h; exact h2 h
theorem zcond_M {c : Bool} {r1 r2 : Option zR} (h1 : r1 = some R → G) (h2 : r2 = some R → G) : cond c r1 r2 = some R → G := fun h => by
  cases c
  · exact h2 h
  · exact h1 h
end ZMN
section ZMN2
variable {E : zE} {M M9 : zM} {o : Option zV ⊕ Nat} {ls : zL} {st : List zV} {hh : List Nat} {i : Instr} {v : Int32} {x : List Nat} {pc : Nat}
variable {cf : Nat → List zV → zM → Option zR} {bk : Nat → zL → List zV → zM → Option zR} {k : zL → List zV → zM → Option zR}
theorem zth_M (hbk : ∀ (t : Nat) (ls : zL) (st : List zV) (M : zM), bk t ls st M = some (o, M9) → zmn M M9) {q : Nat} : zth bk hh pc ls q M = some (o, M9) → zmn M M9 := fun h => by
  unfold zth at h
  split at h
  · cases h; exact zmn.rf
  · split at h
    · exact hbk _ _ _ _ (zif_inv h).2
    · cases h; exact zmn.rf
  · cases h
theorem zcall_M (hcf : ∀ (y : Nat) (as : List zV) (M : zM) (o1 : Option zV ⊕ Nat) (M1 : zM), cf y as M = some (o1, M1) → zmn M M1) (hbk : ∀ (t : Nat) (ls : zL) (st : List zV) (M : zM), bk t ls st M = some (o, M9) → zmn M M9) (hk : ∀ (ls : zL) (st : List zV) (M : zM), k ls st M = some (o, M9) → zmn M M9) {t y : Nat} {as r : List zV} : zcall cf (zth bk hh pc ls) (k ls) t y as r M = some (o, M9) → zmn M M9 := fun h => by
  obtain ⟨-, o1, M1, h5, h6⟩ := zcall_inv h
  refine (hcf _ _ _ _ _ h5).tr ?_
  rcases h6 with ⟨v, -, h⟩ | ⟨q, -, h⟩
  · exact hk _ _ _ h
  · exact zth_M hbk h
set_option maxHeartbeats 4000000 in
theorem zst_M (hcf : ∀ (y : Nat) (as : List zV) (M : zM) (o1 : Option zV ⊕ Nat) (M1 : zM), cf y as M = some (o1, M1) → zmn M M1) (hbk : ∀ (t : Nat) (ls : zL) (st : List zV) (M : zM), bk t ls st M = some (o, M9) → zmn M M9) (hk : ∀ (ls : zL) (st : List zV) (M : zM), k ls st M = some (o, M9) → zmn M M9) : zst E cf bk hh k pc i v x ls st M = some (o, M9) → zmn M M9 := by
  unfold zst
  split <;> repeat' first
    | exact hk _ _ _
    | exact hbk _ _ _ _
    | exact fun h => zal_mn (hk _ _ _ h)
    | exact zth_M hbk
    | exact zcall_M hcf hbk hk
    | (intro h; cases h; done)
    | (intro h; cases h; exact zmn.rf)
    | refine zp2_M fun _ _ _ => ?_
    | refine zp1_M fun _ _ => ?_
    | refine zpr_M fun _ _ => ?_
    | refine zpl2_M fun _ _ _ => ?_
    | refine zpl_M fun _ _ => ?_
    | refine zpc_M fun _ _ => ?_
    | refine ztk_M fun _ _ => ?_
    | refine zvc_M fun _ => ?_
    | refine zss_M fun _ => ?_
    | refine zsw_M fun _ => ?_
    | refine zdr_M fun _ => ?_
    | refine zli_M fun _ => ?_
    | refine zlr_M fun _ => ?_
    | refine zll_M fun _ => ?_
    | refine zif_M ?_
    | refine zite_M ?_ ?_
    | refine zcond_M ?_ ?_
    | split
theorem zex_M (hcf : ∀ (y : Nat) (as : List zV) (M : zM) (o1 : Option zV ⊕ Nat) (M1 : zM), cf y as M = some (o1, M1) → zmn M M1) (hbk : ∀ (t : Nat) (ls : zL) (st : List zV) (M : zM), bk t ls st M = some (o, M9) → zmn M M9) : ∀ (code : zC) (ls : zL) (st : List zV) (M : zM), zex E cf bk hh code ls st M = some (o, M9) → zmn M M9
  | [], _, _, _, h => by cases h
  | (pc, _, i, v, x) :: r, ls, st, M, h => zst_M hcf hbk (fun ls st M h => zex_M hcf hbk r ls st M h) h
theorem zX_M {P : zP} : ∀ (n d y pc : Nat) (ls : zL) (st : List zV) (M : zM) (o : Option zV ⊕ Nat) (M9 : zM), zX E P n d y pc ls st M = some (o, M9) → zmn M M9
  | 0, _, _, _, _, _, _, _, _, h => by cases h
  | n + 1, d, y, pc, ls, st, M, o, M9, h => by
    refine zex_M (fun y' as M o1 M1 h1 => ?_) (fun t ls st M h1 => zX_M n d y t ls st M o M9 h1) _ _ _ _ h
    cases d with
    | zero => cases h1
    | succ d' => exact zX_M n d' y' 0 _ _ _ _ _ h1
end ZMN2
