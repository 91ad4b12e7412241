/-! ===== the small machine's runs are the machine's ===== -/
section ZSND
variable {p : Program} {l : Launch} {e : Env} {R : Room} {s : State} {m : MethodId} {args : Array Value} {below : List Frame} {meth : Method} {c : Code} {Q : State → Prop}
variable {cc : ByteArray} {pc nxt len nL d : Nat} {D : zD} {E : zE} {M M0 M9 : zM} {own : String} {lg : Bool} {rt : Option FieldType} {ini : Prop} {o : Option zV ⊕ Nat} {ls : zL} {st : List zV} {zml : List zY} {hh : List Nat} {i : Instr} {v : Int32} {x : List Nat}
variable {cf : Nat → List zV → zM → Option zR} {bk : Nat → zL → List zV → zM → Option zR} {k : zL → List zV → zM → Option zR}
set_option maxHeartbeats 4000000 in
theorem z_st (hF : zFx p s m args meth c D E own cc nL ini) (hR : zRo R d M0 M9) (hcf : zCf l D E zml d cf) (hth : zTh p l e R s m args below meth c Q D E nL lg M0 M9 o bk hh) (hE : zEnd p l e R s m args below meth c Q D E cc rt M0 M9 o) (hk : ∀ (ls : zL) (st : List zV) (M : zM), k ls st M = some (o, M9) → zGo p l e R s m args below meth c Q D E nL lg M0 M9 nxt ls st M) (hbk : ∀ (t : Nat) (ls : zL) (st : List zV) (M : zM), bk t ls st M = some (o, M9) → zGo p l e R s m args below meth c Q D E nL lg M0 M9 t ls st M)
    (h : zst E cf bk hh k pc i v x ls st M = some (o, M9)) (hd : decode cc pc = .ok (i, len)) (hl : zlk zml own nL lg rt ini pc len nxt i v x) : zGo p l e R s m args below meth c Q D E nL lg M0 M9 pc ls st M := by
  cases i
  case if_icmp cnd off => cases cnd <;> first
    | exact zs_if_icmp_eq_ok hF hk hbk h hd hl
    | exact zs_if_icmp_ne_ok hF hk hbk h hd hl
    | exact zs_if_icmp_lt_ok hF hk hbk h hd hl
    | exact zs_if_icmp_ge_ok hF hk hbk h hd hl
    | exact zs_if_icmp_gt_ok hF hk hbk h hd hl
    | exact zs_if_icmp_le_ok hF hk hbk h hd hl
  case ifCond cnd off => cases cnd <;> first
    | exact zs_ifCond_eq_ok hF hk hbk h hd hl
    | exact zs_ifCond_ne_ok hF hk hbk h hd hl
    | exact zs_ifCond_lt_ok hF hk hbk h hd hl
    | exact zs_ifCond_ge_ok hF hk hbk h hd hl
    | exact zs_ifCond_gt_ok hF hk hbk h hd hl
    | exact zs_ifCond_le_ok hF hk hbk h hd hl
  case if_acmp cnd off => cases cnd <;> first
    | exact zs_if_acmp_eq_ok hF hk hbk h hd hl
    | exact zs_if_acmp_ne_ok hF hk hbk h hd hl
    | (cases h; done)
  all_goals first
    | (cases h; done)
    | exact zs_iadd_ok hF hk hbk h hd hl
    | exact zs_isub_ok hF hk hbk h hd hl
    | exact zs_imul_ok hF hk hbk h hd hl
    | exact zs_iand_ok hF hk hbk h hd hl
    | exact zs_ior_ok hF hk hbk h hd hl
    | exact zs_ishl_ok hF hk hbk h hd hl
    | exact zs_ishr_ok hF hk hbk h hd hl
    | exact zs_iushr_ok hF hk hbk h hd hl
    | exact zs_idiv_ok hF hk hbk h hd hl
    | exact zs_irem_ok hF hk hbk h hd hl
    | exact zs_ineg_ok hF hk hbk h hd hl
    | exact zs_i2b_ok hF hk hbk h hd hl
    | exact zs_i2c_ok hF hk hbk h hd hl
    | exact zs_i2l_ok hF hk hbk h hd hl
    | exact zs_ladd_ok hF hk hbk h hd hl
    | exact zs_lmul_ok hF hk hbk h hd hl
    | exact zs_lcmp_ok hF hk hbk h hd hl
    | exact zs_iload_n_ok hF hk hbk h hd hl
    | exact zs_iload_ok hF hk hbk h hd hl
    | exact zs_aload_n_ok hF hk hbk h hd hl
    | exact zs_aload_ok hF hk hbk h hd hl
    | exact zs_lload_n_ok hF hk hbk h hd hl
    | exact zs_istore_n_ok hF hk hbk h hd hl
    | exact zs_istore_ok hF hk hbk h hd hl
    | exact zs_astore_n_ok hF hk hbk h hd hl
    | exact zs_astore_ok hF hk hbk h hd hl
    | exact zs_lstore_n_ok hF hk hbk h hd hl
    | exact zs_iinc_ok hF hk hbk h hd hl
    | exact zs_iconst_ok hF hk hbk h hd hl
    | exact zs_bipush_ok hF hk hbk h hd hl
    | exact zs_sipush_ok hF hk hbk h hd hl
    | exact zs_lconst_ok hF hk hbk h hd hl
    | exact zs_aconst_null_ok hF hk hbk h hd hl
    | exact zs_ldc_ok hF hk hbk h hd hl
    | exact zs_ldc_w_ok hF hk hbk h hd hl
    | exact zs_ldc2_w_ok hF hk hbk h hd hl
    | exact zs_dup_ok hF hk hbk h hd hl
    | exact zs_dup2_ok hF hk hbk h hd hl
    | exact zs_pop_ok hF hk hbk h hd hl
    | exact zs_goto_ok hF hk hbk h hd hl
    | exact zs_if_icmp_eq_ok hF hk hbk h hd hl
    | exact zs_if_icmp_ne_ok hF hk hbk h hd hl
    | exact zs_if_icmp_lt_ok hF hk hbk h hd hl
    | exact zs_if_icmp_ge_ok hF hk hbk h hd hl
    | exact zs_if_icmp_gt_ok hF hk hbk h hd hl
    | exact zs_if_icmp_le_ok hF hk hbk h hd hl
    | exact zs_ifCond_eq_ok hF hk hbk h hd hl
    | exact zs_ifCond_ne_ok hF hk hbk h hd hl
    | exact zs_ifCond_lt_ok hF hk hbk h hd hl
    | exact zs_ifCond_ge_ok hF hk hbk h hd hl
    | exact zs_ifCond_gt_ok hF hk hbk h hd hl
    | exact zs_ifCond_le_ok hF hk hbk h hd hl
    | exact zs_if_acmp_eq_ok hF hk hbk h hd hl
    | exact zs_if_acmp_ne_ok hF hk hbk h hd hl
    | exact zs_ifnull_ok hF hk hbk h hd hl
    | exact zs_ifnonnull_ok hF hk hbk h hd hl
    | exact zs_tableswitch_ok hF hk hbk h hd hl
    | exact zs_lookupswitch_ok hF hk hbk h hd hl
    | exact zs_getfield_ok hF hk h hd hl
    | exact zs_putfield_ok hF hk h hd hl
    | exact zs_getstatic_ok hF hk h hd hl
    | exact zs_new_ok hF hR hk h hd hl
    | exact zs_newarray_ok hF hR hk h hd hl
    | exact zs_anewarray_ok hF hR hk h hd hl
    | exact zs_arraylength_ok hF hk h hd hl
    | exact zs_iaload_ok hF hk h hd hl
    | exact zs_baload_ok hF hk h hd hl
    | exact zs_caload_ok hF hk h hd hl
    | exact zs_aaload_ok hF hk h hd hl
    | exact zs_iastore_ok hF hk h hd hl
    | exact zs_castore_ok hF hk h hd hl
    | exact zs_bastore_ok hF hk h hd hl
    | exact zs_aastore_ok hF hk h hd hl
    | exact zs_checkcast_ok hF hk h hd hl
    | exact zs_instanceof_ok hF hk h hd hl
    | exact zs_invokevirtual_ok hF hR hcf hth hk h hd hl
    | exact zs_invokespecial_ok hF hR hcf hth hk h hd hl
    | exact zs_invokestatic_ok hF hR hcf hth hk h hd hl
    | exact zs_athrow_ok hF hth h hd hl
    | exact zs_ireturn_ok hF hE h hd hl
    | exact zs_areturn_ok hF hE h hd hl
    | exact zs_lreturn_ok hF hE h hd hl
    | exact zs_return__ok hF hE h hd hl
theorem z_ex (hF : zFx p s m args meth c D E own cc nL ini) (hR : zRo R d M0 M9) (hcf : zCf l D E zml d cf) (hth : zTh p l e R s m args below meth c Q D E nL lg M0 M9 o bk hh) (hE : zEnd p l e R s m args below meth c Q D E cc rt M0 M9 o) (hbk : ∀ (t : Nat) (ls : zL) (st : List zV) (M : zM), bk t ls st M = some (o, M9) → zGo p l e R s m args below meth c Q D E nL lg M0 M9 t ls st M) : ∀ (code : zC) (ls : zL) (st : List zV) (M : zM), zoks zml own cc nL lg rt ini code → zex E cf bk hh code ls st M = some (o, M9) → zGo p l e R s m args below meth c Q D E nL lg M0 M9 (znx code) ls st M
  | [], _, _, _, _, h => by cases h
  | (pc, len, i, v, x) :: r, ls, st, M, ⟨hd, hl, hr⟩, h => z_st (nxt := znx r) hF hR hcf hth hE (fun ls st M h => z_ex hF hR hcf hth hE hbk r ls st M hr h) hbk h hd hl
theorem zsk_ok : ∀ (t : Nat) (code : zC), zoks zml own cc nL lg rt ini code → zoks zml own cc nL lg rt ini (zsk t code)
  | _, [], h => h
  | t, (pc, len, i, v, x) :: r, h => by
    unfold zsk
    split
    · exact h
    · exact zsk_ok t r h.2.2
theorem zsk_nx : ∀ (t : Nat) (code : zC), zsk t code = [] ∨ znx (zsk t code) = t
  | _, [] => Or.inl rfl
  | t, (pc, len, i, v, x) :: r => by
    unfold zsk
    split
    · rename_i h
      exact Or.inr (eq_of_beq h)
    · exact zsk_nx t r
/-- a body, at every place and fuel -/
def zBody (l : Launch) (D : zD) (E : zE) (zml : List zY) (P : zP) (n : Nat) : Prop := ∀ (d y : Nat) (r : zY), P y = (yC r, yH r, yL r) → zoks zml (yN r).cls (yB r) (yL r) (yG r) (yR r) ((yN r).name = "<init>") (yC r) →
  ∀ (p : Program) (e : Env) (R : Room) (s : State) (m : MethodId) (args : Array Value) (below : List Frame) (meth : Method) (c : Code) (Q : State → Prop) (M0 M9 : zM) (o : Option zV ⊕ Nat),
    zFx p s m args meth c D E (yN r).cls (yB r) (yL r) ((yN r).name = "<init>") → zRo R d M0 M9 →
    (∀ bk : Nat → zL → List zV → zM → Option zR, (∀ (t : Nat) (ls : zL) (st : List zV) (M : zM), bk t ls st M = some (o, M9) → zGo p l e R s m args below meth c Q D E (yL r) (yG r) M0 M9 t ls st M) → zTh p l e R s m args below meth c Q D E (yL r) (yG r) M0 M9 o bk (yH r)) →
    zEnd p l e R s m args below meth c Q D E (yB r) (yR r) M0 M9 o → ∀ (pc : Nat) (ls : zL) (st : List zV) (M : zM), zX E P n d y pc ls st M = some (o, M9) → zGo p l e R s m args below meth c Q D E (yL r) (yG r) M0 M9 pc ls st M
def zCons (l : Launch) (D : zD) (E : zE) (zml : List zY) (P : zP) (n : Nat) : Prop := ∀ (d y : Nat) (r : zY) (as : List zV) (M : zM) (o : Option zV ⊕ Nat) (M9 : zM), zml[y]? = some r → zX E P n d y 0 (zini as (P y).2.2) [] M = some (o, M9) → (∀ v ∈ as, (zvv v).category = 1) → as.length ≤ yL r → zCon l D E r d as M o M9
theorem zBody_succ {P : zP} {n : Nat} (hok : ∀ (y : Nat) (r : zY), zml[y]? = some r → zmok zml r) (hG : zBody l D E zml P n) (hC : zCons l D E zml P n) : zBody l D E zml P (n + 1) := by
  intro d y r hPy hoks p e R s m args below meth c Q M0 M9 o hF hR hTf hE pc ls st M h
  have h1 := (zX_eq E P n d y pc ls st M).symm.trans h
  rw [hPy] at h1
  have hbk : ∀ (t : Nat) (ls : zL) (st : List zV) (M : zM), zX E P n d y t ls st M = some (o, M9) → zGo p l e R s m args below meth c Q D E (yL r) (yG r) M0 M9 t ls st M := fun t ls st M h => hG d y r hPy hoks p e R s m args below meth c Q M0 M9 o hF hR hTf hE t ls st M h
  have hcf : zCf l D E zml d (zcfX E P n d) := by
    intro y' as M' o1 M1 h2
    cases d with
    | zero => cases h2
    | succ d' =>
      have h2 : zX E P n d' y' 0 (zini as (P y').2.2) [] M' = some (o1, M1) := h2
      have h3 := zX_M n d' y' 0 _ _ _ _ _ h2
      exact ⟨h3.1, h3.2, d', rfl, fun r' hr' => ⟨(hok _ _ hr').2.2.1, (hok _ _ hr').2.1, fun hc hl => hC d' y' r' as M' o1 M1 hr' h2 hc hl⟩⟩
  have h4 := z_ex hF hR hcf (hTf _ hbk) hE hbk _ ls st M (zsk_ok pc _ hoks) h1
  rcases zsk_nx pc (yC r) with h5 | h5
  · rw [h5] at h1
    cases h1
  · rw [h5] at h4
    exact h4
theorem zini_len : ∀ (as : List zV) (n : Nat), as.length ≤ n → (zini as n).length = n
  | [], n, _ => List.length_replicate
  | a :: l, n, h => by
    have h1 : l.length + 1 ≤ n := h
    show (zini l (n - 1)).length + 1 = n
    rw [zini_len l (n - 1) (by omega)]
    omega
theorem znth_rep : ∀ (n k : Nat), znth (List.replicate n none) k = none
  | 0, _ => rfl
  | n + 1, 0 => rfl
  | n + 1, k + 1 => znth_rep n k
theorem zini_at : ∀ (as : List zV) (n k : Nat) (v : zV), znth (zini as n) k = some v → as[k]? = some v
  | [], n, k, v, h => by
    have h : znth (List.replicate n none) k = some v := h
    rw [znth_rep] at h
    cases h
  | a :: l, n, 0, v, h => by
    have h : some a = some v := h
    rw [← h]; rfl
  | a :: l, n, k + 1, v, h => by
    have := zini_at l (n - 1) k v h
    simpa using this
theorem lg_sl_len : ∀ (vs : List Value), (∀ v ∈ vs, v.category = 1) → (lg_sl vs).length = vs.length
  | [], _ => rfl
  | v :: vs, h => by
    have h1 : v.category = 1 := h v List.mem_cons_self
    have h2 := lg_sl_len vs fun w hw => h w (List.mem_cons_of_mem _ hw)
    unfold lg_sl at h2 ⊢
    rw [List.flatMap_cons, if_neg (by rw [h1]; decide), List.length_append, h2]
    simp only [List.length_cons, List.length_nil]
    omega
theorem lv_args_at : ∀ (vs : List Value) (i k : Nat) (v : Value), (∀ v ∈ vs, v.category = 1) → vs[k]? = some v → (i + k, v) ∈ lv_args i vs
  | [], _, _, _, _, h => by simp at h
  | w :: vs, i, 0, v, _, h => by
    have h : w = v := by simpa using h
    subst h
    exact List.mem_cons_self
  | w :: vs, i, k + 1, v, hc, h => by
    have h1 : w.category = 1 := hc w List.mem_cons_self
    have h2 := lv_args_at vs (i + 1) k v (fun w hw => hc w (List.mem_cons_of_mem _ hw)) (by simpa using h)
    unfold lv_args
    rw [if_neg (by rw [h1]; decide)]
    refine List.mem_cons_of_mem _ ?_
    rw [show i + (k + 1) = i + 1 + k by omega]
    exact h2
theorem zLR_entry {as : List zV} {n : Nat} {lg : Bool} (hc : ∀ v ∈ as, (zvv v).category = 1) (hl : as.length ≤ n) : zLR ((lg_sl (as.map zvv) ++ List.replicate (n - (lg_sl (as.map zvv)).length) Slot.unset).toArray) n lg (zini as n) := by
  have hcm : ∀ v ∈ as.map zvv, v.category = 1 := by
    intro v hv
    obtain ⟨w, hw, rfl⟩ := List.mem_map.mp hv
    exact hc w hw
  obtain ⟨h1, h2, h3⟩ := lv_entry (as.map zvv) (n := n) (by rw [lg_sl_len _ hcm, List.length_map]; exact hl)
  refine ⟨⟨h1, h2, fun q hq => ?_⟩, zini_len as n hl, fun _ k v hv => hc v (List.mem_of_getElem? (zini_at as n k v hv))⟩
  obtain ⟨v, h4, h5⟩ := zas_mem.mp hq
  have h6 := lv_args_at (as.map zvv) 0 q.1 q.2 hcm (by rw [List.getElem?_map, zini_at as n q.1 v h4, ← h5]; rfl)
  rw [Nat.zero_add] at h6
  exact h3 q h6
/-- an exception leaves the method -/
theorem z_out {q : Nat} {mc ms : Nat} {arr : Array Slot} {H : Heap} {locs : List Loc} {rest : List Value} (hF : zFx p s m args meth c D E own cc nL ini) (hlocks : meth.locks = false) (hcov : ∀ x ∈ c.exceptionTable.toList, covers x pc = false) (hq : zKnd E M q) (g2 : zRep D E s M H) (g3 : va_S (fun x => E.1 ≤ x) s.heap H locs) :
    vx_W p l e R s m args below meth c H locs mc ms (vx_MQ below (zQc D E (Sum.inr q) M) (zXC D E (Sum.inr q) M) args s mc ms (fun x => E.1 ≤ x)) (F0 m pc arr rest) q := by
  obtain ⟨hx, hb, hml, hown, hts, hG, hini⟩ := hF
  obtain ⟨hB, ci, r, h1, h2⟩ := hq
  obtain ⟨cell, f1, f2, f3, f4, f5, f6⟩ := g2.2.2.1 q ci r h1 h2
  exact vx_out (E := r.1) hcov hlocks f1 (f5 hB) (by rw [f2]; exact (hG.1.1 ci r h1).2.1) (fun t ht hal => ⟨rfl, hB, ⟨ci, r, h1, h2, rfl⟩, by rw [ht]; exact g2.moved hal, g3.F ht⟩) g3.2.2 (Nat.le_refl _) (Nat.le_refl _)
/-- the handlers of a method -/
def zTab (own : String) (c : Code) (hh : List Nat) : Prop := (hh = [] ∧ c.exceptionTable.toList = []) ∨ ∃ (a e t ct ci : Nat) (q : vw_C), hh = [a, e, t, ci + 1] ∧ c.exceptionTable.toList = [⟨a, e, t, ct⟩] ∧ zcl[ci]? = some q ∧ ct ≠ 0 ∧ Cond.classLink own ct q.1 ∈ lw_all ∧ Cond.castable q.1 q.1 ∈ zxw
theorem z_thf (hF : zFx p s m args meth c D E own cc nL ini) (hlocks : meth.locks = false) (htab : zTab own c hh) (bk : Nat → zL → List zV → zM → Option zR)
    (hbk : ∀ (t : Nat) (ls : zL) (st : List zV) (M : zM), bk t ls st M = some (o, M9) → zGo p l e R s m args below meth c (vx_MQ below (zQc D E o M9) (zXC D E o M9) args s (mS M9 - mS M0) (mU M9 - mU M0) (fun x => E.1 ≤ x)) D E nL lg M0 M9 t ls st M) :
    zTh p l e R s m args below meth c (vx_MQ below (zQc D E o M9) (zXC D E o M9) args s (mS M9 - mS M0) (mU M9 - mU M0) (fun x => E.1 ≤ x)) D E nL lg M0 M9 o bk hh := by
  intro pc ls q M h
  rcases htab with ⟨rfl, ht⟩ | ⟨a, e2, t, ct, ci, r, rfl, ht, h1, h2, h3, h4⟩
  · have h := Option.some.inj (show some (Sum.inr q, M) = some (o, M9) from h)
    obtain rfl : Sum.inr q = o := congrArg Prod.fst h
    obtain rfl : M = M9 := congrArg Prod.snd h
    exact ⟨zmn.rf, fun hq => ⟨zmn.rf, fun arr H locs rest g1 g2 g3 g4 g5 => z_out hF hlocks (by rw [ht]; exact fun _ h => by cases h) hq g2 g3⟩⟩
  · have h : (match (Nat.ble a pc && Nat.blt pc e2) with
      | true => zif (mK M q == ci + 1) (bk t ls [zr (some q)] M)
      | false => some (Sum.inr q, M)) = some (o, M9) := h
    cases hc : (Nat.ble a pc && Nat.blt pc e2) with
    | false =>
      rw [hc] at h
      have h := Option.some.inj (show some (Sum.inr q, M) = some (o, M9) from h)
      obtain rfl : Sum.inr q = o := congrArg Prod.fst h
      obtain rfl : M = M9 := congrArg Prod.snd h
      refine ⟨zmn.rf, fun hq => ⟨zmn.rf, fun arr H locs rest g1 g2 g3 g4 g5 => z_out hF hlocks ?_ hq g2 g3⟩⟩
      rw [ht]
      intro x hx
      rw [List.mem_singleton.mp hx]
      show (decide (a ≤ pc) && decide (pc < e2)) = false
      rw [Bool.and_eq_false_iff] at hc ⊢
      rcases hc with hc | hc
      · exact Or.inl (decide_eq_false fun h9 => by rw [Nat.ble_eq_true_of_le h9] at hc; cases hc)
      · exact Or.inr (decide_eq_false fun h9 => by rw [show Nat.blt pc e2 = true from Nat.ble_eq_true_of_le h9] at hc; cases hc)
    | true =>
      rw [hc] at h
      obtain ⟨h5, h6⟩ := zif_inv (show zif (mK M q == ci + 1) (bk t ls [zr (some q)] M) = some (o, M9) from h)
      obtain ⟨hm, hw⟩ := hbk _ _ _ _ h6
      refine ⟨hm, fun hq => ⟨hm, fun arr H locs rest g1 g2 g3 g4 g5 => ?_⟩⟩
      obtain ⟨hx, hb, hml, hown, hts, hG, hini⟩ := hF
      have h7 : mK M q = ci + 1 := eq_of_beq h5
      obtain ⟨cell, f1, f2, f3, f4, f5, f6⟩ := g2.2.2.1 q ci r h1 h7
      rw [Bool.and_eq_true] at hc
      exact vx_catch (E := r.1) (name := r.1) hown [] ⟨a, e2, t, ct⟩ [] ht (fun _ h => by cases h) (by
        show (decide (a ≤ pc) && decide (pc < e2)) = true
        rw [Bool.and_eq_true]
        exact ⟨decide_eq_true (Nat.le_of_ble_eq_true hc.1), decide_eq_true (Nat.le_of_ble_eq_true hc.2)⟩) h2 (hts _ h3) (va_Nw.use rfl (hG.2.1 _ h4)) f1 (f5 hq.1) (by rw [f2]; exact (hG.1.1 ci r h1).2.1) (hw arr H locs g1 g2 g3 g4 g5)
/-- the ends of a method -/
theorem z_end (hF : zFx p s m args meth c D E own cc nL ini) (hlocks : meth.locks = false) (hret : meth.sig.returnType = rt) : zEnd p l e R s m args below meth c (vx_MQ below (zQc D E o M9) (zXC D E o M9) args s (mS M9 - mS M0) (mU M9 - mU M0) (fun x => E.1 ≤ x)) D E cc rt M0 M9 o := by
  obtain ⟨hx, hb, hml, hown, hts, hG, hini⟩ := hF
  intro pc arr H locs g2 g3 g4 g5
  refine ⟨fun w t ho hd hr hn => ?_, fun x t ho hd hr hr2 => ?_, fun w ho hd hr => ?_, fun ho hd hr => ?_⟩
  · exact vx_ret (W.zret hx hb (hret.trans hr) hn (fun t ht hW => ⟨some (zi w), ho, rfl, by rw [ht]; exact g2.moved hW.alike, g3.F ht⟩) g3.2.2 hd hlocks)
  · refine vx_ret (W.aret hx hb (hret.trans hr) hr2 (by cases x; exact Or.inl rfl; exact Or.inr ⟨_, rfl⟩) (fun t ht hW => ⟨some (zr x), ho, rfl, by rw [ht]; exact g2.moved hW.alike, g3.F ht⟩) g3.2.2 hd hlocks)
  · exact vx_ret (W.lret hx hb (hret.trans hr) (fun t ht hW => ⟨some (zl w), ho, rfl, by rw [ht]; exact g2.moved hW.alike, g3.F ht⟩) g3.2.2 hd hlocks)
  · exact vx_ret (W.vret hx hb (hret.trans hr) (fun t ht hW => ⟨none, ho, rfl, by rw [ht]; exact g2.moved hW.alike, g3.F ht⟩) g3.2.2 hd hlocks)
-- as vx_ofW, by plainFor
theorem vx_ofWF {l : Launch} {y : MethodName} {ws ws' : List Cond} {rm : Room} {Pc : Array Value → State → Prop} {Qc : Array Value → State → Outcome → State → Prop} {XC : Addr → String → State → State → Prop} {mc ms : Nat} {free : Addr → Prop} {cc : ByteArray} {maxL : Nat} {ret : Option FieldType}
    (hy : plainFor y = true) (hw : ws = Cond.code y cc maxL ret :: ws')
    (body : ∀ p e s m args below meth c s₁, BodyLoose p l y (headSpec ws rm) cc maxL ret e s m args below meth c s₁ → c.maxLocals = maxL → (∀ x ∈ c.exceptionTable.toList, False) → Pc args s →
      W p l e (headSpec ws rm).room s m args below meth c s.heap [] 0 0 (vx_MQ below Qc XC args s mc ms free) (entryFrame m args maxL)) : vx_Met l y ws rm Pc Qc XC mc ms free := by
  refine MetFree.of_bodySF (code := cc) (maxLocals := maxL) (ret := ret) hy ?_ ?_
  · intro args s m h hn
    obtain ⟨meth, c, h1, h2, h3, h4, h5, h6, -, -⟩ := Cond.code_spec hn (atoms_spec (ws := ws) h _ (by rw [hw]; exact List.mem_cons_self))
    exact ⟨meth, c, h1, h2, h3, h4, h5, h6⟩
  · intro p e s m args below meth c s₁ B hml hP _
    have hh0 : s₁.heap = s.heap := by rw [B.state]; rfl
    have ht : ∀ x ∈ c.exceptionTable.toList, False := by
      obtain ⟨meth9, c9, h1, h2, -, -, -, -, h7, -⟩ := Cond.code_spec B.named (atoms_spec (ws := ws) B.pre _ (by rw [hw]; exact List.mem_cons_self))
      cases Option.some.inj (h1.symm.trans B.method)
      cases Option.some.inj (h2.symm.trans (Stand.of_body B).code)
      intro x hx
      rw [Array.isEmpty_iff.mp h7] at hx
      cases hx
    obtain ⟨t, a1, o, b1, b2, b3⟩ := body p e s m args below meth c s₁ B hml ht hP s₁ hh0 (Stand.of_body B)
    exact ⟨t, o, a1, b1, b2, b3⟩
theorem zCons_of {P : zP} {n : Nat} (hP : ∀ (y : Nat) (r : zY), zml[y]? = some r → P y = (yC r, yH r, yL r)) (hok : ∀ (y : Nat) (r : zY), zml[y]? = some r → zmok zml r) (hG : zBody l D E zml P n) : zCons l D E zml P n := by
  intro d y r as M o M9 hr h hc hl
  have hPy := hP y r hr
  obtain ⟨k1, k2, k3, k4, k5⟩ := hok y r hr
  rw [hPy] at h
  have h : zX E P n d y 0 (zini as (yL r)) [] M = some (o, M9) := h
  have main : ∀ (p : Program) (e : Env) (s : State) (m : MethodId) (args : Array Value) (below : List Frame) (meth : Method) (c : Code), zFx p s m args meth c D E (yN r).cls (yB r) (yL r) ((yN r).name = "<init>") → meth.locks = false → meth.sig.returnType = yR r → zTab (yN r).cls c (yH r) → zRep D E s M s.heap → args = (as.map zvv).toArray →
      W p l e (zrm d (mS M9 - mS M) (mU M9 - mU M)) s m args below meth c s.heap [] 0 0 (vx_MQ below (zQc D E o M9) (zXC D E o M9) args s (mS M9 - mS M) (mU M9 - mU M) (fun x => E.1 ≤ x)) (entryFrame m args (yL r)) := by
    intro p e s m args below meth c hF hlocks hret htab hRep ha
    subst ha
    have h9 := (hG d y r hPy k4 p e (zrm d (mS M9 - mS M) (mU M9 - mU M)) s m _ below meth c _ M M9 o hF ⟨Nat.le_refl _, Nat.le_refl _, Nat.le_refl _, Nat.le_refl _⟩ (fun bk hbk => z_thf hF hlocks htab bk hbk) (z_end hF hlocks hret) 0 _ [] M h).2 _ s.heap [] (zLR_entry hc hl) hRep va_S.rf (Nat.le_refl _) (Nat.le_refl _)
    rw [Nat.sub_self, Nat.sub_self] at h9
    rw [lg_entry_eq]
    exact h9
  unfold zCon
  rcases k5 with ⟨e1, e2⟩ | ⟨a, e2, t, ct, ci, q, e3, e4, e5, e6, e7, e8, k9⟩
  · have hws : zws r = Cond.code (yN r) (yB r) (yL r) (yR r) :: lw_all := by unfold zws; rw [e1]
    refine vx_ofWF k1 hws (fun p e s m args below meth c s₁ B hml htab hPc => ?_)
    obtain ⟨p1, p2, p3⟩ := hPc
    have hts : ∀ w ∈ lw_all, w.before args s = true := fun w hw => atoms_spec (ws := zws r) B.pre w (by rw [hws]; exact List.mem_cons_of_mem _ hw)
    exact main p e s m args below meth c ⟨B.exec, B.bytes, hml, findClass_of_methodNamed B.named, hts, p2, fun hn => by rw [← hn]; exact (name_of_methodNamed B.named B.method).1⟩ B.notSynchronized B.returns (Or.inl ⟨e2, List.eq_nil_iff_forall_not_mem.mpr htab⟩) p3 p1
  · have hws : zws r = Cond.codeWith (yN r) (yB r) (yL r) (yR r) (yT r) :: lw_all := by unfold zws; rw [e3]
    refine vx_ofWH k9 hws (fun p e s m args below meth c s₁ B hml hPc => ?_)
    obtain ⟨p1, p2, p3⟩ := hPc
    have hts : ∀ w ∈ lw_all, w.before args s = true := fun w hw => atoms_spec (ws := zws r) B.pre w (by rw [hws]; exact List.mem_cons_of_mem _ hw)
    have htb := vx_table (x := yN r) B (atoms_spec (ws := zws r) B.pre _ (by rw [hws]; exact List.mem_cons_self))
    rw [e3] at htb
    exact main p e s m args below meth c ⟨B.exec, B.bytes, hml, findClass_of_methodNamed B.named, hts, p2, fun hn => by rw [← hn]; exact (name_of_methodNamed B.named B.method).1⟩ B.notSynchronized B.returns (Or.inr ⟨a, e2, t, ct, ci, q, e4, htb, e5, e6, e7, e8⟩) p3 p1
theorem z_sound {P : zP} (hP : ∀ (y : Nat) (r : zY), zml[y]? = some r → P y = (yC r, yH r, yL r)) (hok : ∀ (y : Nat) (r : zY), zml[y]? = some r → zmok zml r) : ∀ n : Nat, zBody l D E zml P n ∧ zCons l D E zml P n
  | 0 => ⟨(by intro d y r _ _ p e R s m args below meth c Q M0 M9 o _ _ _ _ pc ls st M h; cases h), (by intro d y r as M o M9 _ h; cases h)⟩
  | n + 1 => by
    obtain ⟨h1, h2⟩ := z_sound hP hok n
    have h3 := zBody_succ hok h1 h2
    exact ⟨h3, zCons_of hP hok h3⟩
end ZSND
