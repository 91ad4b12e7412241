/-! ===== one instruction of the small machine is one of the machine ===== -/
def zGo (p : Program) (l : Launch) (e : Env) (R : Room) (s : State) (m : MethodId) (args : Array Value) (below : List Frame) (meth : Method) (c : Code) (Q : State → Prop) (D : zD) (E : zE) (nL : Nat) (lg : Bool) (M0 M9 : zM) (pc : Nat) (ls : zL) (st : List zV) (M : zM) : Prop :=
  (mS M ≤ mS M9 ∧ mU M ≤ mU M9) ∧ ∀ (arr : Array Slot) (H : Heap) (locs : List Loc), zLR arr nL lg ls → zRep D E s M H → va_S (fun x => E.1 ≤ x) s.heap H locs → mS M0 ≤ mS M → mU M0 ≤ mU M → W p l e R s m args below meth c H locs (mS M - mS M0) (mU M - mU M0) Q (F0 m pc arr (st.map zvv))
def zFx (p : Program) (s : State) (m : MethodId) (args : Array Value) (meth : Method) (c : Code) (D : zD) (E : zE) (own : String) (cc : ByteArray) (nL : Nat) (ini : Prop) : Prop := p.tables.exec = Jvm.exec ∧ c.code = cc ∧ c.maxLocals = nL ∧ s.vm.findClass own = some m.cls ∧ (∀ w ∈ lw_all, w.before args s = true) ∧ zG D E s s.heap ∧ (ini → meth.name = "<init>")
def zKnd (E : zE) (M : zM) (q : Nat) : Prop := E.1 ≤ q ∧ ∃ (ci : Nat) (r : vw_C), zcl[ci]? = some r ∧ mK M q = ci + 1
/-- the exception q goes from pc, over any stack -/
def zXo (p : Program) (l : Launch) (e : Env) (R : Room) (s : State) (m : MethodId) (args : Array Value) (below : List Frame) (meth : Method) (c : Code) (Q : State → Prop) (D : zD) (E : zE) (nL : Nat) (lg : Bool) (M0 M9 : zM) (pc : Nat) (ls : zL) (q : Nat) (M : zM) : Prop :=
  (mS M ≤ mS M9 ∧ mU M ≤ mU M9) ∧ ∀ (arr : Array Slot) (H : Heap) (locs : List Loc) (rest : List Value), zLR arr nL lg ls → zRep D E s M H → va_S (fun x => E.1 ≤ x) s.heap H locs → mS M0 ≤ mS M → mU M0 ≤ mU M → vx_W p l e R s m args below meth c H locs (mS M - mS M0) (mU M - mU M0) Q (F0 m pc arr rest) q
def zEnd (p : Program) (l : Launch) (e : Env) (R : Room) (s : State) (m : MethodId) (args : Array Value) (below : List Frame) (meth : Method) (c : Code) (Q : State → Prop) (D : zD) (E : zE) (cc : ByteArray) (rt : Option FieldType) (M0 M9 : zM) (o : Option zV ⊕ Nat) : Prop :=
  ∀ (pc : Nat) (arr : Array Slot) (H : Heap) (locs : List Loc), zRep D E s M9 H → va_S (fun x => E.1 ≤ x) s.heap H locs → mS M0 ≤ mS M9 → mU M0 ≤ mU M9 →
    (∀ (w : Int32) (t : FieldType), o = Sum.inl (some (zi w)) → decode cc pc = .ok (.ireturn, 1) → rt = some t → narrow t (.int w) = .int w → W p l e R s m args below meth c H locs (mS M9 - mS M0) (mU M9 - mU M0) Q (F0 m pc arr [.int w])) ∧
    (∀ (x : Option Nat) (t : FieldType), o = Sum.inl (some (zr x)) → decode cc pc = .ok (.areturn, 1) → rt = some t → ((∃ n, t = .object n) ∨ ∃ t', t = .array t') → W p l e R s m args below meth c H locs (mS M9 - mS M0) (mU M9 - mU M0) Q (F0 m pc arr [va_rf x])) ∧
    (∀ (w : Int64), o = Sum.inl (some (zl w)) → decode cc pc = .ok (.lreturn, 1) → rt = some .long → W p l e R s m args below meth c H locs (mS M9 - mS M0) (mU M9 - mU M0) Q (F0 m pc arr [.long w])) ∧
    (o = Sum.inl none → decode cc pc = .ok (.return_, 1) → rt = none → W p l e R s m args below meth c H locs (mS M9 - mS M0) (mU M9 - mU M0) Q (F0 m pc arr []))
section ZSTEP
variable {p : Program} {l : Launch} {e : Env} {R : Room} {s : State} {m : MethodId} {args : Array Value} {below : List Frame} {meth : Method} {c : Code} {H : Heap} {locs : List Loc} {Q : State → Prop}
variable {cc : ByteArray} {pc nxt len nL : Nat} {D : zD} {E : zE} {M M0 M1 M9 : zM} {own : String} {lg : Bool} {rt : Option FieldType} {ini : Prop} {o o1 : Option zV ⊕ Nat} {ls : zL} {st rest : List zV} {arr : Array Slot} {a : Array Value} {st0 : List Value}
theorem zKnd.of {q : Nat} (h1 : E.1 ≤ q) {ci : Nat} {r : vw_C} (h2 : zcl[ci]? = some r) (h3 : mK M q = ci + 1) : zKnd E M q := ⟨h1, ci, r, h2, h3⟩
theorem z_after (hr : vx_Run p l e R s m args below meth c H locs (mS M - mS M0) (mU M - mU M0) (mS M1 - mS M) (mU M1 - mU M) (F0 m pc arr st0) (rest.map zvv) (zQc D E o1 M1 a) (zXC D E o1 M1) (fun x => E.1 ≤ x)) (hLR : zLR arr nL lg ls) (hS : va_S (fun x => E.1 ≤ x) s.heap H locs) (h1 : mS M0 ≤ mS M) (h2 : mU M0 ≤ mU M) (h3 : mS M ≤ mS M1) (h4 : mU M ≤ mU M1)
    (kk : ∀ v : Option zV, o1 = Sum.inl v → zGo p l e R s m args below meth c Q D E nL lg M0 M9 (pc + 3) ls (v.toList ++ rest) M1) (kx : ∀ q : Nat, o1 = Sum.inr q → zKnd E M1 q → zXo p l e R s m args below meth c Q D E nL lg M0 M9 pc ls q M1) : W p l e R s m args below meth c H locs (mS M - mS M0) (mU M - mU M0) Q (F0 m pc arr st0) := by
  have ec : mS M - mS M0 + (mS M1 - mS M) = mS M1 - mS M0 := by omega
  have es : mU M - mU M0 + (mU M1 - mU M) = mU M1 - mU M0 := by omega
  intro T hT X
  rcases hr T hT X with ⟨v, st₀, t, T', L, h0, X', hL, e1, e2, ⟨r1, ho, hv, hRep, hF⟩, st⟩ | ⟨q, st₀, t, T', L, X9, ce, h0, X', hL, e1, e2, ⟨ho, hBq, ⟨ci, r, g1, g2, g3⟩, hRep, hF⟩, hce, hcv, hcl, st⟩
  · obtain ⟨k1, k2, k3⟩ := vx_keep h0 e1 hS (fun q _ h => h) (fun q h => h) hL hF
    cases hv
    rw [ec, es] at X'
    have hal : t.vm.Alike s.vm := by rw [← e2]; exact X'.warmed.alike.symm
    obtain ⟨t2, a1, b1⟩ := (kk r1 ho).2 arr T'.heap (locs ++ L) hLR (by rw [e1]; exact hRep.moved hal) k3 (Nat.le_trans h1 h3) (Nat.le_trans h2 h4) T' rfl X'
    refine ⟨t2, st t2 ?_, b1⟩
    have e9 : ((r1.map zvv).toList ++ rest.map zvv) = (r1.toList ++ rest).map zvv := by cases r1 <;> rfl
    show Steps p.tables e below (T'.setTop { method := m, pc := pc + 3, locals := arr, stack := (r1.map zvv).toList ++ rest.map zvv, locked := none }) t2
    rw [e9]
    exact a1
  · obtain ⟨k1, k2, k3⟩ := vx_keep h0 e1 hS (fun q _ h => h) (fun q h => h) hL hF
    rw [ec, es] at X'
    have hal : t.vm.Alike s.vm := by rw [← e2]; exact X'.warmed.alike.symm
    obtain ⟨t2, a1, b1⟩ := (kx q ho (zKnd.of hBq g1 g2)).2 arr T'.heap (locs ++ L) (rest.map zvv) hLR (by rw [e1]; exact hRep.moved hal) k3 (Nat.le_trans h1 h3) (Nat.le_trans h2 h4) T' rfl X'
    exact ⟨t2, st.trans a1, b1⟩
theorem zvps_in {zml : List zY} {idx n : Nat} : ∀ {l pre suf : List Nat} {κ y : Nat}, zvps zml own idx n l → l = pre ++ κ :: y :: suf → pre.length % 2 = 0 → ∃ (ci : Nat) (q : vw_C) (r : zY), κ = ci + 1 ∧ zcl[ci]? = some q ∧ zml[y]? = some r ∧ zlv own idx q.1 r n ∧ n + 1 ≤ yL r
  | l, [], suf, κ, y, h, e, _ => by subst e; exact h.1
  | l, [z], suf, κ, y, h, e, hp => by simp at hp
  | l, z :: z2 :: pre, suf, κ, y, h, e, hp => by
    subst e
    exact zvps_in (l := pre ++ κ :: y :: suf) h.2 rfl (by simp only [List.length_cons] at hp; omega)
theorem zst_pc (x y : Nat) (h : (x : Int) + 0 = y) : x = y := by omega
theorem z_tab {f : Nat → Option zR} {rr : zR} {w : Int32} {pc d : Nat} : ∀ {offs : List Int} {ps : List Nat} {lo : Int}, zpt pc lo offs ps → 0 ≤ lo → zsw w ps d f = some rr →
    (∃ (k t : Nat) (off : Int), offs[k]? = some off ∧ w.toInt = lo + k ∧ (pc : Int) + off = (t : Int) ∧ f t = some rr) ∨ ((∀ k : Nat, k < offs.length → w.toInt ≠ lo + k) ∧ f d = some rr)
  | [], [], lo, _, _, h => Or.inr ⟨fun k hk => absurd hk (Nat.not_lt_zero k), h⟩
  | [], _ :: _, _, h, _, _ => by simp [zpt] at h
  | _ :: _, [], _, h, _, _ => by simp [zpt] at h
  | _ :: _, [_], _, h, _, _ => by simp [zpt] at h
  | off :: offs, k :: t :: ps, lo, ⟨h1, h2, h3, h4⟩, hlo, h => by
    have h' : (if w = Int32.ofNat k then f t else zsw w ps d f) = some rr := h
    have hk : (Int32.ofNat k).toInt = (k : Int) := nI_toInt h2
    by_cases hw : w = Int32.ofNat k
    · rw [if_pos hw] at h'
      exact Or.inl ⟨0, t, off, rfl, by rw [hw, hk, h1]; omega, h3, h'⟩
    · rw [if_neg hw] at h'
      rcases z_tab h4 (by omega) h' with ⟨j, t', off', g1, g2, g3, g4⟩ | ⟨g1, g2⟩
      · exact Or.inl ⟨j + 1, t', off', g1, by rw [g2]; omega, g3, g4⟩
      · refine Or.inr ⟨fun j hj => ?_, g2⟩
        cases j with
        | zero =>
          intro e
          apply hw
          apply Int32.toInt_inj.mp
          rw [hk, e, h1]
          omega
        | succ j =>
          have := g1 j (by simpa using hj)
          omega
theorem z_lok {f : Nat → Option zR} {rr : zR} {w : Int32} {pc d : Nat} {df : Int} : ∀ {os : List (Int × Int)} {ps : List Nat}, zpl_ pc os ps → (pc : Int) + df = (d : Int) → zsw w ps d f = some rr →
    ∃ t : Nat, (pc : Int) + Op.lookupswitch.offset os df w.toInt = (t : Int) ∧ f t = some rr
  | [], [], _, hd, h => ⟨d, hd, h⟩
  | [], _ :: _, h, _, _ => by simp [zpl_] at h
  | _ :: _, [], h, _, _ => by simp [zpl_] at h
  | _ :: _, [_], h, _, _ => by simp [zpl_] at h
  | (a, off) :: os, k :: t :: ps, ⟨h1, h2, h3, h4⟩, hd, h => by
    have h' : (if w = Int32.ofNat k then f t else zsw w ps d f) = some rr := h
    have hk : (Int32.ofNat k).toInt = (k : Int) := nI_toInt h2
    have h1 : a = (k : Int) := h1
    by_cases hw : w = Int32.ofNat k
    · rw [if_pos hw] at h'
      refine ⟨t, ?_, h'⟩
      have e : Op.lookupswitch.offset ((a, off) :: os) df w.toInt = off := by
        rw [hw, hk, h1]
        simp [Op.lookupswitch.offset]
      rw [e]; exact h3
    · rw [if_neg hw] at h'
      obtain ⟨t', g1, g2⟩ := z_lok h4 hd h'
      refine ⟨t', ?_, g2⟩
      rw [lv_osw hw (by rw [hk, h1])]
      exact g1
end ZSTEP
