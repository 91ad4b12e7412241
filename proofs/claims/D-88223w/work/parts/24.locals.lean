/-! ===== locals, inversions ===== -/
theorem znth_lt : ∀ {l : zL} {k : Nat} {v : zV}, znth l k = some v → k < l.length
  | [], _, _, h => by simp [znth] at h
  | _ :: _, 0, _, _ => Nat.succ_pos _
  | _ :: _, k + 1, _, h => Nat.succ_lt_succ (znth_lt h)
theorem zset_len : ∀ (l : zL) (k : Nat) (v : Option zV), (zset l k v).length = l.length
  | [], _, _ => rfl
  | _ :: _, 0, _ => rfl
  | _ :: l, k + 1, v => congrArg Nat.succ (zset_len l k v)
theorem znth_set : ∀ (l : zL) (k j : Nat) (v : Option zV), znth (zset l k v) j = if j = k then (if k < l.length then v else none) else znth l j
  | [], k, j, v => by
    show none = _
    by_cases h : j = k <;> simp [h, znth]
  | a :: l, 0, 0, v => by simp [zset, znth]
  | a :: l, 0, j + 1, v => by simp [zset, znth]
  | a :: l, k + 1, 0, v => by simp [zset, znth]
  | a :: l, k + 1, j + 1, v => by
    simp only [zset, znth, znth_set l k j v, Nat.succ_inj, List.length_cons, Nat.add_lt_add_iff_right]
def zas (l : zL) : List (Nat × Value) := (List.range l.length).filterMap (fun k => (znth l k).map (fun v => (k, zvv v)))
theorem zas_mem {l : zL} {q : Nat × Value} : q ∈ zas l ↔ ∃ v, znth l q.1 = some v ∧ zvv v = q.2 := by
  unfold zas
  rw [List.mem_filterMap]
  constructor
  · rintro ⟨k, -, h⟩
    cases hv : znth l k with
    | none => rw [hv] at h; cases h
    | some v =>
      rw [hv] at h
      cases h
      exact ⟨v, hv, rfl⟩
  · rintro ⟨v, h1, h2⟩
    exact ⟨q.1, List.mem_range.mpr (znth_lt h1), by rw [h1]; show some (q.1, zvv v) = some q; rw [h2]⟩
def zLR (ls : Array Slot) (nL : Nat) (lg : Bool) (l : zL) : Prop := lv_has ls nL (zas l) ∧ l.length = nL ∧ (lg = false → ∀ (k : Nat) (v : zV), znth l k = some v → (zvv v).category = 1)
theorem zLR.at {ls : Array Slot} {nL : Nat} {lg : Bool} {l : zL} (h : zLR ls nL lg l) {k : Nat} {v : zV} (hv : znth l k = some v) : ls[k]? = some (.val (zvv v)) := h.1.2.2 (k, zvv v) (zas_mem.mpr ⟨v, hv, rfl⟩)
theorem zcat2 {v : zV} (h : (zvv v).category = 2) : ∃ g, v = Sum.inr (Sum.inr g) := by
  match v, h with
  | Sum.inl x, h => simp [zvv, Value.category] at h
  | Sum.inr (Sum.inl none), h => simp [zvv, va_rf, Value.category] at h
  | Sum.inr (Sum.inl (some a)), h => simp [zvv, va_rf, Value.category] at h
  | Sum.inr (Sum.inr g), _ => exact ⟨g, rfl⟩
theorem zcat_r (o : Option Nat) : (va_rf o).category = 1 := by cases o <;> rfl
theorem zLR.store1 {ls ls' : Array Slot} {nL i : Nat} {lg : Bool} {l : zL} {w : zV} (h : zLR ls nL lg l) (hi : i < nL) (hc : (zvv w).category = 1) (hp : lg = true → ∀ g, znth l (i - 1) ≠ some (Sum.inr (Sum.inr g)))
    (h' : lv_has ls' nL ((i, zvv w) :: (zas l).filter (fun q => !(q.1 == i) && !(q.1 + 1 == i && q.2.category == 2)))) : zLR ls' nL lg (zset l i (some w)) := by
  obtain ⟨h1, h2, h3⟩ := h
  have hs : ∀ (k : Nat) (v : zV), znth (zset l i (some w)) k = some v → (k = i ∧ v = w) ∨ (k ≠ i ∧ znth l k = some v) := by
    intro k v hv
    rw [znth_set] at hv
    by_cases hk : k = i
    · rw [if_pos hk, if_pos (by omega)] at hv
      cases hv
      exact Or.inl ⟨hk, rfl⟩
    · rw [if_neg hk] at hv
      exact Or.inr ⟨hk, hv⟩
  refine ⟨⟨h'.1, h'.2.1, fun q hq => ?_⟩, (zset_len l i _).trans h2, fun hg k v hv => ?_⟩
  · obtain ⟨v, hv, hvq⟩ := zas_mem.mp hq
    refine h'.2.2 q ?_
    rcases hs _ _ hv with ⟨hk, rfl⟩ | ⟨hk, hv⟩
    · refine List.mem_cons.mpr (Or.inl ?_)
      rw [← hk, hvq]
    · refine List.mem_cons_of_mem _ (List.mem_filter.mpr ⟨zas_mem.mpr ⟨v, hv, hvq⟩, ?_⟩)
      simp only [Bool.and_eq_true, Bool.not_eq_true', beq_eq_false_iff_ne, ne_eq, Bool.and_eq_false_iff]
      refine ⟨hk, ?_⟩
      by_cases hc2 : q.2.category = 2
      · refine Or.inl fun hki => ?_
        rw [← hvq] at hc2
        obtain ⟨g, rfl⟩ := zcat2 hc2
        cases hlg : lg with
        | false => have := h3 hlg _ _ hv; omega
        | true => exact hp hlg g (by rw [← hki]; exact hv)
      · exact Or.inr hc2
  · rcases hs _ _ hv with ⟨-, rfl⟩ | ⟨-, hv⟩
    · exact hc
    · exact h3 hg k v hv
theorem zLR.store2 {ls ls' : Array Slot} {nL i : Nat} {l : zL} {x : Int64} (h : zLR ls nL true l) (hi : i + 1 < nL) (hp : ∀ g, znth l (i - 1) ≠ some (Sum.inr (Sum.inr g)))
    (h' : lv_has ls' nL ((i, Value.long x) :: (zas l).filter (fun q => !(q.1 == i) && (!(q.1 == i + 1) && !(q.1 + 1 == i && q.2.category == 2))))) : zLR ls' nL true (zset (zset l i (some (zl x))) (i + 1) none) := by
  obtain ⟨h1, h2, h3⟩ := h
  have hs : ∀ (k : Nat) (v : zV), znth (zset (zset l i (some (zl x))) (i + 1) none) k = some v → (k = i ∧ v = zl x) ∨ (k ≠ i ∧ k ≠ i + 1 ∧ znth l k = some v) := by
    intro k v hv
    rw [znth_set, znth_set] at hv
    by_cases hk1 : k = i + 1
    · rw [if_pos hk1] at hv
      split at hv <;> cases hv
    · rw [if_neg hk1] at hv
      by_cases hk : k = i
      · rw [if_pos hk, if_pos (by omega)] at hv
        cases hv
        exact Or.inl ⟨hk, rfl⟩
      · rw [if_neg hk] at hv
        exact Or.inr ⟨hk, hk1, hv⟩
  refine ⟨⟨h'.1, h'.2.1, fun q hq => ?_⟩, by rw [zset_len, zset_len]; exact h2, fun hg => by cases hg⟩
  obtain ⟨v, hv, hvq⟩ := zas_mem.mp hq
  refine h'.2.2 q ?_
  rcases hs _ _ hv with ⟨hk, rfl⟩ | ⟨hk, hk1, hv⟩
  · refine List.mem_cons.mpr (Or.inl ?_)
    have e : zvv (zl x) = Value.long x := rfl
    rw [← hk, ← e, hvq]
  · refine List.mem_cons_of_mem _ (List.mem_filter.mpr ⟨zas_mem.mpr ⟨v, hv, hvq⟩, ?_⟩)
    simp only [Bool.and_eq_true, Bool.not_eq_true', beq_eq_false_iff_ne, ne_eq, Bool.and_eq_false_iff]
    refine ⟨hk, hk1, ?_⟩
    by_cases hc2 : q.2.category = 2
    · refine Or.inl fun hki => ?_
      rw [← hvq] at hc2
      obtain ⟨g, rfl⟩ := zcat2 hc2
      exact hp g (by rw [← hki]; exact hv)
    · exact Or.inr hc2
/-! inversions -/
theorem zdr_inv {o : Option Nat} {f : Nat → Option zR} {R : zR} (h : zdr o f = some R) : ∃ a, o = some a ∧ f a = some R := by
  cases o with
  | none => cases h
  | some a => exact ⟨a, rfl, h⟩
theorem zif_inv {b : Bool} {r : Option zR} {R : zR} (h : zif b r = some R) : b = true ∧ r = some R := by
  cases b with
  | false => cases h
  | true => exact ⟨rfl, h⟩
theorem zli_inv {ls : zL} {k : Nat} {f : Int32 → Option zR} {R : zR} (h : zli ls k f = some R) : ∃ x, znth ls k = some (zi x) ∧ f x = some R := by
  unfold zli at h
  split at h
  · exact ⟨_, by assumption, h⟩
  · rw [zh_n] at h; cases h
theorem zlr_inv {ls : zL} {k : Nat} {f : Option Nat → Option zR} {R : zR} (h : zlr ls k f = some R) : ∃ x, znth ls k = some (zr x) ∧ f x = some R := by
  unfold zlr at h
  split at h
  · exact ⟨_, by assumption, h⟩
  · rw [zh_n] at h; cases h
theorem zll_inv {ls : zL} {k : Nat} {f : Int64 → Option zR} {R : zR} (h : zll ls k f = some R) : ∃ x, znth ls k = some (zl x) ∧ f x = some R := by
  unfold zll at h
  split at h
  · exact ⟨_, by assumption, h⟩
  · rw [zh_n] at h; cases h
theorem zp1_inv {st : List zV} {f : Int32 → List zV → Option zR} {R : zR} (h : zp1 st f = some R) : ∃ x r, st = zi x :: r ∧ f x r = some R := by
  unfold zp1 at h
  split at h
  · exact ⟨_, _, rfl, h⟩
  · rw [zh_n] at h; cases h
theorem zp2_inv {st : List zV} {f : Int32 → Int32 → List zV → Option zR} {R : zR} (h : zp2 st f = some R) : ∃ b a r, st = zi b :: zi a :: r ∧ f a b r = some R := by
  obtain ⟨b, r1, e1, h1⟩ := zp1_inv h
  obtain ⟨a, r, e2, h2⟩ := zp1_inv h1
  exact ⟨b, a, r, by rw [e1, e2], h2⟩
theorem zpr_inv {st : List zV} {f : Option Nat → List zV → Option zR} {R : zR} (h : zpr st f = some R) : ∃ x r, st = zr x :: r ∧ f x r = some R := by
  unfold zpr at h
  split at h
  · exact ⟨_, _, rfl, h⟩
  · rw [zh_n] at h; cases h
theorem zpl_inv {st : List zV} {f : Int64 → List zV → Option zR} {R : zR} (h : zpl st f = some R) : ∃ x r, st = zl x :: r ∧ f x r = some R := by
  unfold zpl at h
  split at h
  · exact ⟨_, _, rfl, h⟩
  · rw [zh_n] at h; cases h
theorem zpl2_inv {st : List zV} {f : Int64 → Int64 → List zV → Option zR} {R : zR} (h : zpl2 st f = some R) : ∃ b a r, st = zl b :: zl a :: r ∧ f a b r = some R := by
  obtain ⟨b, r1, e1, h1⟩ := zpl_inv h
  obtain ⟨a, r, e2, h2⟩ := zpl_inv h1
  exact ⟨b, a, r, by rw [e1, e2], h2⟩
theorem zpc_inv {st : List zV} {f : zV → List zV → Option zR} {R : zR} (h : zpc st f = some R) : ∃ x r, st = x :: r ∧ (zvv x).category = 1 ∧ f x r = some R := by
  unfold zpc at h
  split at h
  · exact ⟨_, _, rfl, rfl, h⟩
  · exact ⟨_, _, rfl, zcat_r _, h⟩
  · rw [zh_n] at h; cases h
theorem ztk_inv : ∀ {n : Nat} {acc st : List zV} {f : List zV → List zV → Option zR} {R : zR}, ztk n acc st f = some R → ∃ as r, st = as ++ r ∧ as.length = n ∧ (∀ v ∈ as, (zvv v).category = 1) ∧ f (as.reverse ++ acc) r = some R
  | 0, acc, st, f, R, h => ⟨[], st, rfl, rfl, (fun _ h => absurd h List.not_mem_nil), h⟩
  | n + 1, acc, st, f, R, h => by
    obtain ⟨x, r, e1, hc, h1⟩ := zpc_inv h
    obtain ⟨as, r', e2, hl, hall, h2⟩ := ztk_inv h1
    refine ⟨x :: as, r', by rw [e1, e2]; rfl, by rw [List.length_cons, hl], fun v hv => ?_, ?_⟩
    · rcases List.mem_cons.mp hv with rfl | hv
      · exact hc
      · exact hall v hv
    · rw [List.reverse_cons, List.append_assoc]
      exact h2
theorem zss_inv {ls : zL} {lg : Bool} {i : Nat} {w : zV} {f : zL → Option zR} {R : zR} (h : zss ls (i :: (if lg then [1] else [])) w f = some R) : (lg = true → ∀ g, znth ls (i - 1) ≠ some (Sum.inr (Sum.inr g))) ∧ f (zset ls i (some w)) = some R := by
  cases lg with
  | false => exact ⟨fun h => (by cases h), h⟩
  | true =>
    have h' : (match znth ls (i - 1) with | some (Sum.inr (Sum.inr _)) => none | _ => f (zset ls i (some w))) = some R := h
    split at h'
    · cases h'
    · rename_i hn
      exact ⟨fun _ g hg => hn g hg, h'⟩
theorem zsm_cat : ∀ (r : List zV), ((r.map zvv).map fun v => v.category).sum = zsm r
  | [] => rfl
  | Sum.inl x :: r => by
    show 1 + ((r.map zvv).map fun v => v.category).sum = 1 + zsm r
    rw [zsm_cat r]
  | Sum.inr (Sum.inl o) :: r => by
    show (va_rf o).category + ((r.map zvv).map fun v => v.category).sum = 1 + zsm r
    rw [zsm_cat r, zcat_r]
  | Sum.inr (Sum.inr x) :: r => by
    show 2 + ((r.map zvv).map fun v => v.category).sum = 2 + zsm r
    rw [zsm_cat r]
theorem zcall_inv {cf : Nat → List zV → zM → Option zR} {th : Nat → zM → Option zR} {k : List zV → zM → Option zR} {t y : Nat} {as r : List zV} {M : zM} {R : zR} (h : zcall cf th k t y as r M = some R) :
    zsm r ≤ 8 ∧ ∃ o1 M1, cf y as M = some (o1, M1) ∧ ((∃ v : Option zV, o1 = Sum.inl v ∧ k (v.toList ++ r) M1 = some R) ∨ ∃ q, o1 = Sum.inr q ∧ th q M1 = some R) := by
  obtain ⟨h8, h⟩ := zif_inv h
  refine ⟨Nat.le_of_ble_eq_true h8, ?_⟩
  match t, h with
  | 0, h =>
    have h : zcv (cf y as M) th (fun M => k r M) = some R := h
    unfold zcv at h
    split at h
    · exact ⟨_, _, by assumption, Or.inl ⟨none, rfl, h⟩⟩
    · exact ⟨_, _, by assumption, Or.inr ⟨_, rfl, h⟩⟩
    · cases h
  | 1, h =>
    have h : zci (cf y as M) th (fun x M => k (zi x :: r) M) = some R := h
    unfold zci at h
    split at h
    · exact ⟨_, _, by assumption, Or.inl ⟨some (zi _), rfl, h⟩⟩
    · exact ⟨_, _, by assumption, Or.inr ⟨_, rfl, h⟩⟩
    · cases h
  | 2, h =>
    have h : zcr (cf y as M) th (fun x M => k (zr x :: r) M) = some R := h
    unfold zcr at h
    split at h
    · exact ⟨_, _, by assumption, Or.inl ⟨some (zr _), rfl, h⟩⟩
    · exact ⟨_, _, by assumption, Or.inr ⟨_, rfl, h⟩⟩
    · cases h
  | t + 3, h =>
    have h : zcg (cf y as M) th (fun x M => k (zl x :: r) M) = some R := h
    unfold zcg at h
    split at h
    · exact ⟨_, _, by assumption, Or.inl ⟨some (zl _), rfl, h⟩⟩
    · exact ⟨_, _, by assumption, Or.inr ⟨_, rfl, h⟩⟩
    · cases h
theorem zvc_inv : ∀ {κ : Nat} {l : List Nat} {f : Nat → Option zR} {R : zR}, zvc κ l f = some R → ∃ (pre suf : List Nat) (y : Nat), l = pre ++ κ :: y :: suf ∧ pre.length % 2 = 0 ∧ f y = some R
  | κ, [], f, R, h => by cases h
  | κ, [c], f, R, h => by cases h
  | κ, [c, y], f, R, h => by
    obtain ⟨h1, h2⟩ := zif_inv (show zif (κ == c) (f y) = some R from h)
    have e : κ = c := by simpa using h1
    exact ⟨[], [], y, by rw [e]; rfl, rfl, h2⟩
  | κ, c :: y :: d :: l, f, R, h => by
    have h1 : (if κ = c then f y else zvc κ (d :: l) f) = some R := h
    by_cases hk : κ = c
    · rw [if_pos hk] at h1
      exact ⟨[], d :: l, y, by rw [hk]; rfl, rfl, h1⟩
    · rw [if_neg hk] at h1
      obtain ⟨pre, suf, z, e1, e2, e3⟩ := zvc_inv h1
      refine ⟨c :: y :: pre, suf, z, by rw [e1]; rfl, ?_, e3⟩
      show (pre.length + 1 + 1) % 2 = 0
      omega
theorem zkb_inv : ∀ {k : Nat} {l : List Nat}, zkb k l = true → k ∈ l
  | k, [], h => by cases h
  | k, c :: l, h => by
    have h : ((k == c) || zkb k l) = true := h
    rw [Bool.or_eq_true] at h
    rcases h with h | h
    · have : k = c := by simpa using h
      rw [this]; exact List.mem_cons_self
    · exact List.mem_cons_of_mem _ (zkb_inv h)
