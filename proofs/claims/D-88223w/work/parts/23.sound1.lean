/-! ===== the words that are carried along, and what texts and statics hold ===== -/
def zxw : List Cond := [(Jvm.Cond.castable "SledHouse$Refused" "SledHouse$Refused"), (Jvm.Cond.methodLinkNest "SledHouse$Team" (33 : Nat) ({ cls := "SledHouse$Dog", name := "<init>", desc := "()V" } : Jvm.MethodName) "SledHouse"), (Jvm.Cond.methodLinkNest "SledHouse" (204 : Nat) ({ cls := "SledHouse$Plan", name := "<init>", desc := "()V" } : Jvm.MethodName) "SledHouse"), (Jvm.Cond.fieldLinkNest "SledHouse$Team" (131 : Nat) "SledHouse$Plan" "rules" "[LSledHouse$Rule;" "SledHouse"), (Jvm.Cond.fieldLinkNest "SledHouse" (382 : Nat) "SledHouse$Plan" "many" "I" "SledHouse"), (Jvm.Cond.methodLinkNest "SledHouse$Plan" (36 : Nat) ({ cls := "SledHouse", name := "actOf", desc := "(Ljava/lang/String;)I" } : Jvm.MethodName) "SledHouse"), (Jvm.Cond.methodLinkNest "SledHouse$Plan" (44 : Nat) ({ cls := "SledHouse$Rule", name := "<init>", desc := "()V" } : Jvm.MethodName) "SledHouse"), (Jvm.Cond.fieldLinkNest "SledHouse$Plan" (60 : Nat) "SledHouse$Rule" "many" "I" "SledHouse"), (Jvm.Cond.fieldLinkNest "SledHouse$Team" (135 : Nat) "SledHouse$Rule" "act" "I" "SledHouse"), (Jvm.Cond.methodLinkNest "SledHouse$Rule" (53 : Nat) ({ cls := "SledHouse", name := "nameOf", desc := "(Ljava/lang/String;)I" } : Jvm.MethodName) "SledHouse"), (Jvm.Cond.methodLinkNest "SledHouse$Rule" (39 : Nat) ({ cls := "SledHouse", name := "actOf", desc := "(Ljava/lang/String;)I" } : Jvm.MethodName) "SledHouse"), (Jvm.Cond.methodLinkNest "SledHouse" (287 : Nat) ({ cls := "SledHouse$Team", name := "inState", desc := "(I)I" } : Jvm.MethodName) "SledHouse"), (Jvm.Cond.methodLinkNest "SledHouseModel" (53 : Nat) ({ cls := "SledHouseModel$Team", name := "<init>", desc := "()V" } : Jvm.MethodName) "SledHouseModel"), (Jvm.Cond.fieldLinkNest "SledHouseModel" (361 : Nat) "SledHouseModel$Team" "dogs" "I" "SledHouseModel"), (Jvm.Cond.fieldLinkNest "SledHouseModel" (327 : Nat) "SledHouseModel$Team" "load" "I" "SledHouseModel"), (Jvm.Cond.fieldLinkNest "SledHouseModel" (322 : Nat) "SledHouseModel$Team" "meals" "I" "SledHouseModel"), (Jvm.Cond.fieldLinkNest "SledHouseModel" (333 : Nat) "SledHouseModel$Team" "start" "I" "SledHouseModel"), (Jvm.Cond.fieldLinkNest "SledHouseModel" (292 : Nat) "SledHouseModel$Team" "plan" "I" "SledHouseModel"), (Jvm.Cond.fieldLinkNest "SledHouseModel" (289 : Nat) "SledHouseModel$Team" "status" "I" "SledHouseModel"), (Jvm.Cond.fieldLinkNest "SledHouseModel" (307 : Nat) "SledHouseModel$Team" "leg" "I" "SledHouseModel"), (Jvm.Cond.fieldLinkNest "SledHouseModel" (304 : Nat) "SledHouseModel$Team" "far" "I" "SledHouseModel"), (Jvm.Cond.fieldLinkNest "SledHouseModel" (310 : Nat) "SledHouseModel$Team" "run" "I" "SledHouseModel"), (Jvm.Cond.fieldLinkNest "SledHouseModel" (312 : Nat) "SledHouseModel$Team" "rest" "I" "SledHouseModel"), (Jvm.Cond.fieldLinkNest "SledHouseModel" (342 : Nat) "SledHouseModel$Team" "did" "I" "SledHouseModel"), (Jvm.Cond.fieldLinkNest "SledHouseModel" (385 : Nat) "SledHouseModel$Team" "signs" "I" "SledHouseModel"), (Jvm.Cond.fieldLinkNest "SledHouseModel" (295 : Nat) "SledHouseModel$Team" "gaps" "I" "SledHouseModel"), (Jvm.Cond.fieldLinkNest "SledHouseModel" (369 : Nat) "SledHouseModel$Team" "ownLoad" "I" "SledHouseModel"), (Jvm.Cond.fieldLinkNest "SledHouseModel" (415 : Nat) "SledHouseModel$Team" "ownMeals" "I" "SledHouseModel"), (Jvm.Cond.fieldLinkNest "SledHouseModel" (314 : Nat) "SledHouseModel$Team" "strength" "[I" "SledHouseModel"), (Jvm.Cond.fieldLinkNest "SledHouseModel" (352 : Nat) "SledHouseModel$Team" "state" "[I" "SledHouseModel"), (Jvm.Cond.fieldLinkNest "SledHouseModel" (355 : Nat) "SledHouseModel$Team" "leftAt" "[I" "SledHouseModel"), (Jvm.Cond.fieldLinkNest "SledHouseModel" (335 : Nat) "SledHouseModel$Team" "came" "[I" "SledHouseModel"), (Jvm.Cond.fieldLinkNest "SledHouseModel" (358 : Nat) "SledHouseModel$Team" "went" "[I" "SledHouseModel"), (Jvm.Cond.fieldLinkNest "SledHouseModel" (382 : Nat) "SledHouseModel$Team" "signStep" "[I" "SledHouseModel"), (Jvm.Cond.fieldLinkNest "SledHouseModel" (388 : Nat) "SledHouseModel$Team" "signWay" "[I" "SledHouseModel"), (Jvm.Cond.fieldLinkNest "SledHouseModel" (298 : Nat) "SledHouseModel$Team" "gapFrom" "[I" "SledHouseModel"), (Jvm.Cond.fieldLinkNest "SledHouseModel" (301 : Nat) "SledHouseModel$Team" "gapTo" "[I" "SledHouseModel"), (Jvm.Cond.castable "SledHouseModel$Stop" "SledHouseModel$Stop"), (Jvm.Cond.fieldLinkNest "SledHouseModel" (132 : Nat) "SledHouseModel$Stop" "kind" "I" "SledHouseModel"), (Jvm.Cond.fieldLinkNest "SledHouseModel" (138 : Nat) "SledHouseModel$Stop" "place" "I" "SledHouseModel"), (Jvm.Cond.castable "SledHouse$RestAt" "SledHouse$Law"), (Jvm.Cond.castable "SledHouse$RestFrom" "SledHouse$Law"), (Jvm.Cond.castable "SledHouse$LeastDogs" "SledHouse$Law"), (Jvm.Cond.castable "SledHouse$Fine" "SledHouse$Law")]
def zao : List String := ["SledHouse$Team", "SledHouse$Dog", "SledHouse$Plan", "SledHouse$Law", "SledHouse$Rule", "SledHouse$Test", "SledHouseModel$Team"]
def znc : List (String × String) := [("SledHouse$RestFrom", "SledHouse$Fine"), ("SledHouse$RestAt", "SledHouse$Fine"), ("SledHouse$LeastDogs", "SledHouse$Fine")]
/-- texts: class, place, text, number -/
def zsl : List (String × Nat × String × Nat) := [("SledHouse", 7, "go", 0), ("SledHouse", 13, "stay", 1), ("SledHouse", 15, "feed", 2), ("SledHouse", 17, "leave", 3), ("SledHouse", 21, "run", 4), ("SledHouse", 23, "rest", 5), ("SledHouse", 25, "weak", 6), ("SledHouse", 27, "mean", 7), ("SledHouse", 29, "cold", 8), ("SledHouse", 31, "meals", 9), ("SledHouse", 33, "dogs", 10), ("SledHouse", 35, "left", 11), ("SledHouse", 37, "hour", 12), ("SledHouse", 39, "post", 13), ("SledHouse", 41, "load", 14), ("SledHouse", 52, "at", 15), ("SledHouse", 60, "from", 16), ("SledHouse", 66, "to", 17), ("SledHouse", 78, "fine", 18), ("SledHouse", 80, "for", 19), ("SledHouse$Plan", 21, "when", 20), ("SledHouse$Reader", 58, "", 21), ("SledHouse$Rule", 17, "when", 22), ("SledHouse$Rule", 29, "and", 23), ("SledHouseModel", 192, "go", 24), ("SledHouseModel", 194, "stay", 25), ("SledHouseModel", 196, "feed", 26), ("SledHouseModel", 198, "leave", 27), ("SledHouseModel", 200, "run", 28), ("SledHouseModel", 202, "rest", 29), ("SledHouseModel", 204, "weak", 30), ("SledHouseModel", 206, "mean", 31), ("SledHouseModel", 208, "cold", 32), ("SledHouseModel", 209, "meals", 33), ("SledHouseModel", 211, "dogs", 34), ("SledHouseModel", 213, "left", 35), ("SledHouseModel", 215, "hour", 36), ("SledHouseModel", 217, "post", 37), ("SledHouseModel", 219, "load", 38), ("SledHouseModel", 230, "when", 39), ("SledHouseModel", 239, "and", 40), ("SledHouseModel", 253, "fine", 41), ("SledHouseModel", 255, "for", 42), ("SledHouseModel", 261, "at", 43), ("SledHouseModel", 262, "from", 44), ("SledHouseModel", 264, "to", 45), ("java/lang/String", 7, "", 46)]
def zsi : List (String × String × String × Int32) := [("java/lang/String", "COMPACT_STRINGS", "Z", 1), ("java/lang/StringUTF16", "$assertionsDisabled", "Z", 1), ("java/lang/StringUTF16", "HI_BYTE_SHIFT", "I", 0), ("java/lang/StringUTF16", "LO_BYTE_SHIFT", "I", 8)]
def zsr : List (String × String × String × Nat) := [("jdk/internal/util/Preconditions", "SIOOBE_FORMATTER", "Ljava/util/function/BiFunction;", 0), ("java/lang/Throwable", "UNASSIGNED_STACK", "[Ljava/lang/StackTraceElement;", 1), ("java/lang/Throwable", "SUPPRESSED_SENTINEL", "Ljava/util/List;", 2)]
def zxb : Cond → Bool
  | .fieldLinkNest _ _ _ _ _ _ => true
  | .methodLinkNest _ _ _ _ => true
  | .castable _ _ => true
  | _ => false
theorem zxw_k : zxw.all zxb = true := by decide +kernel
theorem zxw_warm {w : Cond} (hw : w ∈ zxw) {s U : State} (hW : s.WarmedH U.vm) (h : va_Nw w s) : va_Nw w U := by
  have hk := List.all_eq_true.mp zxw_k w hw
  cases w <;> first
    | exact va_Nw.warmF hW h
    | exact va_Nw.warmM hW h
    | exact va_Nw.warmC hW h
    | (exfalso; simp [zxb] at hk)
theorem zxw_ot {w : Cond} (hw : w ∈ zxw) : w.onTables = true := by
  have hk := List.all_eq_true.mp zxw_k w hw
  cases w <;> first
    | rfl
    | (exfalso; simp [zxb] at hk)
/-- what holds all through, at a state with the heap H -/
def zG (D : zD) (E : zE) (U : State) (H : Heap) : Prop := va_K D.1 zcl (ztl D.2) U ∧ (∀ w ∈ zxw, va_Nw w U) ∧ (∀ C ∈ zao, va_AO C U) ∧ (∀ q ∈ znc, va_Nc q.1 q.2 U) ∧ (∀ q ∈ zsl, vk_R q.1 q.2.1 q.2.2.1 (E.2.1 q.2.2.2) U) ∧ (∀ q ∈ zsi, va_Z q.1 q.2.1 q.2.2.1 (.int q.2.2.2) (fun x => E.1 ≤ x) U H) ∧ (∀ q ∈ zsr, va_Z q.1 q.2.1 q.2.2.1 (va_rf (E.2.2 q.2.2.2)) (fun x => E.1 ≤ x) U H)
theorem zG.next {D : zD} {E : zE} {s U : State} {H H' : Heap} (hW : s.WarmedH U.vm) (hq : ∀ a : Nat, a < H.size → ¬ E.1 ≤ a → H'[a]? = H[a]?) (h : zG D E s H) : zG D E U H' := by
  obtain ⟨h1, h2, h3, h4, h5, h6, h7⟩ := h
  exact ⟨h1.moved hW.alike, fun w hw => zxw_warm hw hW (h2 w hw), fun C hC => (h3 C hC).moved hW.alike, fun q hq => (h4 q hq).moved hW.alike, fun q hq => (h5 q hq).warm hW, fun q hq' => ((h6 q hq').moved hW.alike).kept hq, fun q hq' => ((h7 q hq').moved hW.alike).kept hq⟩
theorem zG.same {D : zD} {E : zE} {u U : State} {H : Heap} (hv : U.vm = u.vm) (h : zG D E u H) : zG D E U H := by
  have hal : u.vm.Alike U.vm := by rw [hv]; exact Vm.Alike.refl _
  obtain ⟨h1, h2, h3, h4, h5, h6, h7⟩ := h
  exact ⟨h1.moved hal, fun w hw => va_Nw.same (zxw_ot hw) hv.symm (h2 w hw), fun C hC => (h3 C hC).moved hal, fun q hq => (h4 q hq).moved hal, fun q hq => (h5 q hq).same hv, fun q hq' => (h6 q hq').moved hal, fun q hq' => (h7 q hq').moved hal⟩
/-! a method's record: code, handlers, locals, name, bytes, answer, table, whether it has long locals -/
abbrev zY : Type := zC × List Nat × Nat × MethodName × ByteArray × Option FieldType × List (Nat × Nat × Nat × Nat) × Bool
def yC (r : zY) : zC := r.1
def yH (r : zY) : List Nat := r.2.1
def yL (r : zY) : Nat := r.2.2.1
def yN (r : zY) : MethodName := r.2.2.2.1
def yB (r : zY) : ByteArray := r.2.2.2.2.1
def yR (r : zY) : Option FieldType := r.2.2.2.2.2.1
def yT (r : zY) : List (Nat × Nat × Nat × Nat) := r.2.2.2.2.2.2.1
def yG (r : zY) : Bool := r.2.2.2.2.2.2.2
def zvv (v : zV) : Value := match v with
  | Sum.inl x => .int x
  | Sum.inr (Sum.inl o) => va_rf o
  | Sum.inr (Sum.inr x) => .long x
def zws (r : zY) : List Cond := match yT r with
  | [] => ws_ (yN r) (yB r) (yL r) (yR r)
  | h :: t => wsW_ (yN r) (yB r) (yL r) (yR r) (h :: t)
def zrm (d mc ms : Nat) : Room := { frames := d + 1, cells := mc, slots := ms, locals := 32 * (d + 1) }
def zPc (D : zD) (E : zE) (as : List zV) (M : zM) : Array Value → State → Prop := fun v U => v = (as.map zvv).toArray ∧ zG D E U U.heap ∧ zRep D E U M U.heap
def zQc (D : zD) (E : zE) (o : Option zV ⊕ Nat) (M' : zM) : Array Value → State → Outcome → State → Prop := fun _ st oc t => ∃ r : Option zV, o = Sum.inl r ∧ oc = .returned (r.map zvv) ∧ zRep D E t M' t.heap ∧ va_F (fun x => E.1 ≤ x) st t
def zXC (D : zD) (E : zE) (o : Option zV ⊕ Nat) (M' : zM) : Addr → String → State → State → Prop := fun q X st t => o = Sum.inr q ∧ E.1 ≤ q ∧ (∃ (c : Nat) (r : vw_C), zcl[c]? = some r ∧ mK M' q = c + 1 ∧ r.1 = X) ∧ zRep D E t M' t.heap ∧ va_F (fun x => E.1 ≤ x) st t
theorem zPc_blind {D : zD} {E : zE} {as : List zV} {M : zM} : FrameBlind (zPc D E as M) := by
  intro a U g mk ⟨h1, h2, h3⟩
  exact ⟨h1, zG.same (u := U) (U := U.calling g mk a) rfl h2, zRep.moved (u := U) (U := U.calling g mk a) (Vm.Alike.refl U.vm) h3⟩
/-- the contract of one run of the method r -/
def zCon (l : Launch) (D : zD) (E : zE) (r : zY) (d : Nat) (as : List zV) (M : zM) (o : Option zV ⊕ Nat) (M' : zM) : Prop := vx_Met l (yN r) (zws r) (zrm d (mS M' - mS M) (mU M' - mU M)) (zPc D E as M) (zQc D E o M') (zXC D E o M') (mS M' - mS M) (mU M' - mU M) (fun x => E.1 ≤ x)
/-! the calls' links -/
def zprm (x : MethodName) (n : Nat) : Prop := (x.cls ≠ "java/lang/invoke/MethodHandle" ∧ x.cls ≠ "java/lang/invoke/VarHandle") ∧ (parseMethodDescriptor x.desc).map (fun d => d.parameters.length) = some n
def zlv (own : String) (idx : Nat) (C : String) (r : zY) (n : Nat) : Prop := Cond.initialized (yN r).cls ∈ lw_all ∧ Cond.instanceMethod (yN r) ∈ lw_all ∧
  (((yN r).cls = C ∧ Cond.methodLink own idx (yN r) ∈ lw_all ∧ Cond.selects C (yN r) (yN r) ∈ lw_all ∧ zprm (yN r) n) ∨
   ((yN r).cls = C ∧ yT r = [] ∧ (∃ host : String, Cond.methodLinkNest own idx (yN r) host ∈ zxw) ∧ Cond.selects C (yN r) (yN r) ∈ lw_all ∧ zprm (yN r) n) ∨
   (yT r = [] ∧ ∃ (x : MethodName) (b : ByteArray) (L : Nat) (ret : Option FieldType), Cond.methodLink own idx x ∈ lw_all ∧ Cond.sameMethod x.cls x.cls x.name x.desc ∈ lw_all ∧ Cond.selects C x (yN r) ∈ lw_all ∧ Cond.instanceMethod x ∈ lw_all ∧ Cond.code x b L ret ∈ lw_all ∧ zprm x n))
def zlc (own : String) (idx : Nat) (r : zY) (n : Nat) : Prop := yT r = [] ∧ yR r = none ∧ (yN r).name = "<init>" ∧ Cond.initialized (yN r).cls ∈ lw_all ∧ Cond.instanceMethod (yN r) ∈ lw_all ∧ zprm (yN r) n ∧ (Cond.methodLink own idx (yN r) ∈ lw_all ∨ ∃ host : String, Cond.methodLinkNest own idx (yN r) host ∈ zxw)
def zlu (own : String) (idx : Nat) (r : zY) (n : Nat) : Prop := yT r = [] ∧ (yN r).name ≠ "<init>" ∧ Cond.initialized (yN r).cls ∈ lw_all ∧ Cond.instanceMethod (yN r) ∈ lw_all ∧ zprm (yN r) n ∧ Cond.methodLink own idx (yN r) ∈ lw_all ∧ Cond.sameMethod (yN r).cls (yN r).cls (yN r).name (yN r).desc ∈ lw_all ∧ Cond.superclass own (yN r).cls ∈ lw_all
def zls (own : String) (idx : Nat) (r : zY) (n : Nat) : Prop := yT r = [] ∧ Cond.static (yN r) ∈ lw_all ∧ Cond.initialized (yN r).cls ∈ lw_all ∧ zprm (yN r) n ∧ (Cond.methodLink own idx (yN r) ∈ lw_all ∨ ∃ host : String, Cond.methodLinkNest own idx (yN r) host ∈ zxw)
/-- the method's own word -/
def zcw (r : zY) : Prop := match yT r with
  | [] => Cond.code (yN r) (yB r) (yL r) (yR r) ∈ lw_all
  | h :: t => Cond.codeWith (yN r) (yB r) (yL r) (yR r) (h :: t) ∈ lw_all
section ZCALLS
variable {p : Program} {l : Launch} {e : Env} {R : Room} {s : State} {m : MethodId} {args : Array Value} {below : List Frame} {meth : Method} {c : Code} {H : Heap} {locs : List Loc} {cells slots : Nat}
variable {cc : ByteArray} {nL n idx mc ms : Nat} {own : String} {r : zY} {rm : Room} {Pc : Array Value → State → Prop} {Qc : Array Value → State → Outcome → State → Prop} {XC : Addr → String → State → State → Prop} {free : Addr → Prop} {b : Addr} {As rest : List Value} {g : JFrame} {C : String}
theorem z_runV (S : CallFix p m c cc nL s args lw_all own) (hN : ∀ w ∈ zxw, va_Nw w s) (hM : vx_Met l (yN r) (zws r) rm Pc Qc XC mc ms free) (hcw : zcw r) (hl : zlv own idx C r n) (hrc : rm.cells = mc) (hrs : rm.slots = ms) (hR : rm.frames + 1 ≤ R.frames ∧ 8 + (yL r + 11) + rm.locals ≤ R.locals) (hp : PreV s H C b Pc As)
    (hg : g.method = m) (hn : As.length = n) (hsize : g.locals.size = nL) (hstack : g.stack = As.reverse ++ .ref b :: rest) (hW : 2 * g.monitorRoom + (rest.map fun v => v.category).sum ≤ 8) (hdg : decode cc g.pc = .ok (.invokevirtual idx, 3)) (hf : cells + mc ≤ R.cells ∧ slots + ms ≤ R.slots) :
    vx_Run p l e R s m args below meth c H locs cells slots mc ms g rest (Qc (Value.ref b :: As).toArray) XC free := by
  obtain ⟨hini, hins, h⟩ := hl
  have hts := S.2.2.2.2
  unfold zws at hM
  unfold zcw at hcw
  cases hT : yT r with
  | nil =>
    rw [hT] at hM hcw
    rcases h with ⟨rfl, h1, h2, h3, h4⟩ | ⟨rfl, -, ⟨host, h1⟩, h2, h3, h4⟩ | ⟨-, x, bx, Lx, retx, h1, h2, h3, h4, h5, h6, h7⟩
    · exact vx_runV S hM (cwV n hts (lw_V h1 hins h2 hini hcw) rfl hrc hrs ⟨rfl, h3.1, h3.2, h4⟩ hR) hp hg hn hsize hstack hW hdg hf
    · exact vx_runVN S hM ⟨va_cnB n hts (lw_meth hcw) rfl hrc hrs (hN _ h1) (hts _ hini) ⟨h3.1, h3.2, h4⟩ hR, hts _ hins, hts _ h2⟩ hp hg hn hsize hstack hW hdg hf
    · refine vx_runU (x := x) (owner := x.cls) S hM ⟨⟨hrc, hrs, hR.1, hR.2, pay_in hts (lw_meth hcw), List.mem_cons_self⟩, hts _ hcw, hts _ hini, h6, fun sig hs => ?_, hts _ h1, hts _ h2, va_Decl.of (hts _ h4) (hts _ h5), hts _ h3, hts _ hins⟩ hp hg hn hsize hstack hW hdg hf
      rw [hs] at h7
      exact (Option.some.inj h7).symm
  | cons hh tt =>
    rw [hT] at hM hcw
    rcases h with ⟨rfl, h1, h2, h3, h4⟩ | ⟨-, h0, -⟩ | ⟨h0, -⟩
    · exact vx_runVX S hM (vx_cwVW n hts (lw_VW h1 hins h2 hini hcw) rfl hrc hrs ⟨rfl, h3.1, h3.2, h4⟩ hR) hp hg hn hsize hstack hW hdg hf
    · rw [hT] at h0; cases h0
    · rw [hT] at h0; cases h0
theorem z_runI (S : CallFix p m c cc nL s args lw_all own) (hN : ∀ w ∈ zxw, va_Nw w s) (hM : vx_Met l (yN r) (zws r) rm Pc Qc XC mc ms free) (hcw : zcw r) (hl : zlc own idx r n) (hrc : rm.cells = mc) (hrs : rm.slots = ms) (hR : rm.frames + 1 ≤ R.frames ∧ 8 + (yL r + 11) + rm.locals ≤ R.locals) (hp : PreS s H Pc (.ref b :: As))
    (hg : g.method = m) (hn : As.length = n) (hsize : g.locals.size = nL) (hstack : g.stack = As.reverse ++ .ref b :: rest) (hW : 2 * g.monitorRoom + (rest.map fun v => v.category).sum ≤ 8) (hdg : decode cc g.pc = .ok (.invokespecial idx, 3)) (hf : cells + mc ≤ R.cells ∧ slots + ms ≤ R.slots) :
    vx_Run p l e R s m args below meth c H locs cells slots mc ms g rest (Qc (Value.ref b :: As).toArray) XC free := by
  obtain ⟨hT, hret, hnm, hini, hins, ⟨h1, h2⟩, h⟩ := hl
  have hts := S.2.2.2.2
  unfold zws at hM
  unfold zcw at hcw
  rw [hT] at hM hcw
  rw [hret] at hM hcw
  rcases h with h | ⟨host, h⟩
  · exact vx_runI S hM (cwI n hts (lw_meth hcw) rfl hrc hrs (hts _ hini) (hts _ h) (hts _ hins) hnm ⟨h1.1, h1.2, h2⟩ hR) hp hg hn hsize hstack hW hdg hf
  · exact vx_runIN S hM ⟨va_cnB n hts (lw_meth hcw) rfl hrc hrs (hN _ h) (hts _ hini) ⟨h1.1, h1.2, h2⟩ hR, hnm, hts _ hins⟩ hp hg hn hsize hstack hW hdg hf
theorem z_runU {cC : ClassId} (hat : ClassAt s C cC) (S : CallFix p m c cc nL s args lw_all own) (hM : vx_Met l (yN r) (zws r) rm Pc Qc XC mc ms free) (hcw : zcw r) (hl : zlu own idx r n) (hrc : rm.cells = mc) (hrs : rm.slots = ms) (hR : rm.frames + 1 ≤ R.frames ∧ 8 + (yL r + 11) + rm.locals ≤ R.locals) (hp : PreV s H C b Pc As)
    (hg : g.method = m) (hn : As.length = n) (hsize : g.locals.size = nL) (hstack : g.stack = As.reverse ++ .ref b :: rest) (hW : 2 * g.monitorRoom + (rest.map fun v => v.category).sum ≤ 8) (hdg : decode cc g.pc = .ok (.invokespecial idx, 3)) (hf : cells + mc ≤ R.cells ∧ slots + ms ≤ R.slots) :
    vx_Run p l e R s m args below meth c H locs cells slots mc ms g rest (Qc (Value.ref b :: As).toArray) XC free := by
  obtain ⟨hT, hnm, hini, hins, ⟨h1, h2⟩, h3, h4, h5⟩ := hl
  have hts := S.2.2.2.2
  unfold zws at hM
  unfold zcw at hcw
  rw [hT] at hM hcw
  refine vx_runSU hat S hM ⟨⟨hrc, hrs, hR.1, hR.2, pay_in hts (lw_meth hcw), List.mem_cons_self⟩, hts _ h3, hts _ h4, hts _ h5, hts _ hins, hts _ hini, hts _ hcw, hnm, fun sig hs => ?_⟩ hp hg hn hsize hstack hW hdg hf
  rw [hs] at h2
  exact (Option.some.inj h2).symm
theorem z_runS (S : CallFix p m c cc nL s args lw_all own) (hN : ∀ w ∈ zxw, va_Nw w s) (hM : vx_Met l (yN r) (zws r) rm Pc Qc XC mc ms free) (hcw : zcw r) (hl : zls own idx r n) (hrc : rm.cells = mc) (hrs : rm.slots = ms) (hR : rm.frames + 1 ≤ R.frames ∧ 8 + (yL r + 11) + rm.locals ≤ R.locals) (hp : PreS s H Pc As)
    (hg : g.method = m) (hn : As.length = n) (hsize : g.locals.size = nL) (hstack : g.stack = As.reverse ++ rest) (hW : 2 * g.monitorRoom + (rest.map fun v => v.category).sum ≤ 8) (hdg : decode cc g.pc = .ok (.invokestatic idx, 3)) (hf : cells + mc ≤ R.cells ∧ slots + ms ≤ R.slots) :
    vx_Run p l e R s m args below meth c H locs cells slots mc ms g rest (Qc As.toArray) XC free := by
  obtain ⟨hT, hst, hini, ⟨h1, h2⟩, h⟩ := hl
  have hts := S.2.2.2.2
  unfold zws at hM
  unfold zcw at hcw
  rw [hT] at hM hcw
  rcases h with h | ⟨host, h⟩
  · exact vx_runS S hM (va_cwS n hts (lw_S h hst hini hcw) rfl hrc hrs ⟨h1.1, h1.2, h2⟩ hR) hp hg hn hsize hstack hW hdg hf
  · exact vx_runSN S hM ⟨va_cnB n hts (lw_meth hcw) rfl hrc hrs (hN _ h) (hts _ hini) ⟨h1.1, h1.2, h2⟩ hR, hts _ hst, trivial⟩ hp hg hn hsize hstack hW hdg hf
end ZCALLS
