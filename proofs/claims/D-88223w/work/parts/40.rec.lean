set_option maxRecDepth 100000
/-! ===== the codes have what they need: helpers ===== -/
section ZOK
variable {zml : List zY} {own : String} {cc : ByteArray} {nL : Nat} {lg : Bool} {rt : Option FieldType} {ini : Prop} {pc len nxt : Nat} {v : Int32} {x : List Nat} {i : Instr} {r : zC}
theorem zo_c (hd : decode cc pc = .ok (i, len)) (hl : zlk zml own nL lg rt ini pc len (znx r) i v x) (hr : zoks zml own cc nL lg rt ini r) : zoks zml own cc nL lg rt ini ((pc, len, i, v, x) :: r) := ⟨hd, hl, hr⟩
theorem zo_n : zoks zml own cc nL lg rt ini [] := trivial
theorem zk_aload_n {n : Fin 4} : zlk zml own nL lg rt ini pc 1 (pc + 1) (.aload_n n) v [(n : Nat)] := ⟨rfl, rfl, rfl⟩
theorem zk_iload_n {n : Fin 4} : zlk zml own nL lg rt ini pc 1 (pc + 1) (.iload_n n) v [(n : Nat)] := ⟨rfl, rfl, rfl⟩
theorem zk_lload_n {n : Fin 4} : zlk zml own nL lg rt ini pc 1 (pc + 1) (.lload_n n) v [(n : Nat)] := ⟨rfl, rfl, rfl⟩
theorem zk_aload {n : Nat} : zlk zml own nL lg rt ini pc 2 (pc + 2) (.aload n) v [n] := ⟨rfl, rfl, rfl⟩
theorem zk_iload {n : Nat} : zlk zml own nL lg rt ini pc 2 (pc + 2) (.iload n) v [n] := ⟨rfl, rfl, rfl⟩
theorem zk_istore_n {n : Fin 4} (h : Nat.blt n nL = true) : zlk zml own nL lg rt ini pc 1 (pc + 1) (.istore_n n) v ((n : Nat) :: zlg lg) := ⟨rfl, rfl, Nat.le_of_ble_eq_true h, rfl⟩
theorem zk_astore_n {n : Fin 4} (h : Nat.blt n nL = true) : zlk zml own nL lg rt ini pc 1 (pc + 1) (.astore_n n) v ((n : Nat) :: zlg lg) := ⟨rfl, rfl, Nat.le_of_ble_eq_true h, rfl⟩
theorem zk_lstore_n {n : Fin 4} (h : Nat.blt (n + 1) nL = true) : zlk zml own nL true rt ini pc 1 (pc + 1) (.lstore_n n) v ((n : Nat) :: zlg true) := ⟨rfl, rfl, Nat.le_of_ble_eq_true h, rfl, rfl⟩
theorem zk_istore {n : Nat} (h : Nat.blt n nL = true) : zlk zml own nL lg rt ini pc 2 (pc + 2) (.istore n) v (n :: zlg lg) := ⟨rfl, rfl, Nat.le_of_ble_eq_true h, rfl⟩
theorem zk_astore {n : Nat} (h : Nat.blt n nL = true) : zlk zml own nL lg rt ini pc 2 (pc + 2) (.astore n) v (n :: zlg lg) := ⟨rfl, rfl, Nat.le_of_ble_eq_true h, rfl⟩
theorem zk_iinc {n : Nat} {j : Int} (h : Nat.blt n nL = true) (h2 : Int32.ofInt j = v) : zlk zml own nL lg rt ini pc 3 (pc + 3) (.iinc n j) v (n :: zlg lg) := ⟨rfl, rfl, Nat.le_of_ble_eq_true h, h2, rfl⟩
theorem zk_iconst {j : Int} (h : Int32.ofInt j = v) : zlk zml own nL lg rt ini pc 1 (pc + 1) (.iconst j) v x := ⟨rfl, rfl, h⟩
theorem zk_bipush {j : Int} (h : (Int8.ofInt j).toInt32 = v) : zlk zml own nL lg rt ini pc 2 (pc + 2) (.bipush j) v x := ⟨rfl, rfl, h⟩
theorem zk_sipush {j : Int} (h : (Int16.ofInt j).toInt32 = v) : zlk zml own nL lg rt ini pc 3 (pc + 3) (.sipush j) v x := ⟨rfl, rfl, h⟩
theorem zk_lconst {n : Fin 2} : zlk zml own nL lg rt ini pc 1 (pc + 1) (.lconst n) v [(n : Nat)] := ⟨rfl, rfl, rfl⟩
theorem zk_ldcC {idx : Nat} (h : Cond.constant own idx v ∈ lw_all) : zlk zml own nL lg rt ini pc 2 (pc + 2) (.ldc idx) v [] := ⟨rfl, rfl, Or.inl ⟨rfl, h⟩⟩
theorem zk_ldcS {idx n : Nat} {tx : String} (h : (own, idx, tx, n) ∈ zsl) : zlk zml own nL lg rt ini pc 2 (pc + 2) (.ldc idx) v [n] := ⟨rfl, rfl, Or.inr ⟨tx, n, rfl, h⟩⟩
theorem zk_ldc_w {idx n : Nat} {tx : String} (h : (own, idx, tx, n) ∈ zsl) : zlk zml own nL lg rt ini pc 3 (pc + 3) (.ldc_w idx) v [n] := ⟨rfl, rfl, tx, n, rfl, h⟩
theorem zk_ldc2_w {idx n : Nat} (h : Cond.constantLong own idx (Int64.ofNat n) ∈ lw_all) : zlk zml own nL lg rt ini pc 3 (pc + 3) (.ldc2_w idx) v [n] := ⟨rfl, rfl, n, rfl, h⟩
theorem zk_goto {off : Int} {t : Nat} (h : (pc : Int) + off = (t : Int)) : zlk zml own nL lg rt ini pc 3 nxt (.goto off) v [t] := ⟨rfl, t, rfl, h⟩
theorem zk_if_icmp {cnd : _} {off : Int} {t : Nat} (h : (pc : Int) + off = (t : Int)) : zlk zml own nL lg rt ini pc 3 (pc + 3) (.if_icmp cnd off) v [t] := ⟨rfl, rfl, t, rfl, h⟩
theorem zk_ifCond {cnd : _} {off : Int} {t : Nat} (h : (pc : Int) + off = (t : Int)) : zlk zml own nL lg rt ini pc 3 (pc + 3) (.ifCond cnd off) v [t] := ⟨rfl, rfl, t, rfl, h⟩
theorem zk_if_acmp {cnd : _} {off : Int} {t : Nat} (h : (pc : Int) + off = (t : Int)) : zlk zml own nL lg rt ini pc 3 (pc + 3) (.if_acmp cnd off) v [t] := ⟨rfl, rfl, t, rfl, h⟩
theorem zk_ifnull {off : Int} {t : Nat} (h : (pc : Int) + off = (t : Int)) : zlk zml own nL lg rt ini pc 3 (pc + 3) (.ifnull off) v [t] := ⟨rfl, rfl, t, rfl, h⟩
theorem zk_ifnonnull {off : Int} {t : Nat} (h : (pc : Int) + off = (t : Int)) : zlk zml own nL lg rt ini pc 3 (pc + 3) (.ifnonnull off) v [t] := ⟨rfl, rfl, t, rfl, h⟩
theorem zpt_n {lo : Int} : zpt pc lo [] [] := trivial
theorem zpt_c {lo off : Int} {os : List Int} {k t : Nat} {ps : List Nat} (h1 : lo = (k : Int)) (h2 : Nat.blt k 2147483648 = true) (h3 : (pc : Int) + off = (t : Int)) (h4 : zpt pc (lo + 1) os ps) : zpt pc lo (off :: os) (k :: t :: ps) := ⟨h1, Nat.le_of_ble_eq_true h2, h3, h4⟩
theorem zpl_n : zpl_ pc [] [] := trivial
theorem zpl_c {a off : Int} {os : List (Int × Int)} {k t : Nat} {ps : List Nat} (h1 : a = (k : Int)) (h2 : Nat.blt k 2147483648 = true) (h3 : (pc : Int) + off = (t : Int)) (h4 : zpl_ pc os ps) : zpl_ pc ((a, off) :: os) (k :: t :: ps) := ⟨h1, Nat.le_of_ble_eq_true h2, h3, h4⟩
theorem zk_tab {dd lo hi : Int} {offs : Array Int} {t : Nat} {ps : List Nat} (h1 : (pc : Int) + dd = (t : Int)) (h2 : 0 ≤ lo) (h3 : hi + 1 = lo + (offs.toList.length : Int)) (h4 : zpt pc lo offs.toList ps) : zlk zml own nL lg rt ini pc len nxt (.tableswitch dd lo hi offs) v (t :: ps) := ⟨t, ps, rfl, h1, h2, h3, h4⟩
theorem zk_look {dd : Int} {prs : Array (Int × Int)} {t : Nat} {ps : List Nat} (h0 : (prs.toList.zip (prs.toList.drop 1)).all (fun (a, next) => a.1 < next.1) = true) (h1 : (pc : Int) + dd = (t : Int)) (h4 : zpl_ pc prs.toList ps) : zlk zml own nL lg rt ini pc len nxt (.lookupswitch dd prs) v (t :: ps) := ⟨h0, t, ps, rfl, h1, h4⟩
theorem za_n {G : Nat → Prop} : ∀ κ ∈ ([] : List Nat), G κ := fun _ h => by cases h
theorem za_c {G : Nat → Prop} {k : Nat} {ks : List Nat} (h1 : G k) (h2 : ∀ κ ∈ ks, G κ) : ∀ κ ∈ k :: ks, G κ := fun κ h => by
  rcases List.mem_cons.mp h with rfl | h
  · exact h1
  · exact h2 κ h
theorem zk_getfield {idx tg k : Nat} {ks : List Nat} (h : ∀ κ ∈ ks, zfg own idx κ k tg) : zlk zml own nL lg rt ini pc 3 (pc + 3) (.getfield idx) v (tg :: k :: ks) := ⟨rfl, rfl, tg, k, ks, rfl, h⟩
theorem zk_putfield {idx tg k : Nat} {ks : List Nat} (h : ∀ κ ∈ ks, zfp own ini idx κ k tg) : zlk zml own nL lg rt ini pc 3 (pc + 3) (.putfield idx) v (tg :: k :: ks) := ⟨rfl, rfl, tg, k, ks, rfl, h⟩
theorem zfg_w {idx k tg ci : Nat} {q : vw_C} (h1 : zcl[ci]? = some q) (h2 : Nat.blt k q.2.2 = true) (h3 : ztg (zty ci k) = tg) (h4 : Cond.fieldLink own idx (q.2.1 k).1 (q.2.1 k).2.1 (q.2.1 k).2.2.1 ∈ lw_all) : zfg own idx (ci + 1) k tg := ⟨ci, q, rfl, h1, Nat.le_of_ble_eq_true h2, h3, Or.inl h4⟩
theorem zfg_h {idx k tg ci : Nat} {q : vw_C} {host : String} (h1 : zcl[ci]? = some q) (h2 : Nat.blt k q.2.2 = true) (h3 : ztg (zty ci k) = tg) (h4 : Cond.fieldLinkNest own idx (q.2.1 k).1 (q.2.1 k).2.1 (q.2.1 k).2.2.1 host ∈ zxw) : zfg own idx (ci + 1) k tg := ⟨ci, q, rfl, h1, Nat.le_of_ble_eq_true h2, h3, Or.inr ⟨host, h4⟩⟩
theorem zfp_w {idx k tg ci : Nat} {q : vw_C} (h1 : zcl[ci]? = some q) (h2 : Nat.blt k q.2.2 = true) (h3 : zpg (zty ci k) = tg) (h4 : Cond.fieldLink own idx (q.2.1 k).1 (q.2.1 k).2.1 (q.2.1 k).2.2.1 ∈ lw_all) (h5 : (q.2.1 k).2.2.2 = false) : zfp own ini idx (ci + 1) k tg := ⟨ci, q, rfl, h1, Nat.le_of_ble_eq_true h2, h3, Or.inl ⟨h4, fun h => by rw [h5] at h; cases h⟩⟩
theorem zfp_f {idx k tg ci : Nat} {q : vw_C} (h1 : zcl[ci]? = some q) (h2 : Nat.blt k q.2.2 = true) (h3 : zpg (zty ci k) = tg) (h4 : Cond.fieldLink own idx (q.2.1 k).1 (q.2.1 k).2.1 (q.2.1 k).2.2.1 ∈ lw_all) (h5 : ini) (h6 : (q.2.1 k).1 = own) : zfp own ini idx (ci + 1) k tg := ⟨ci, q, rfl, h1, Nat.le_of_ble_eq_true h2, h3, Or.inl ⟨h4, fun _ => ⟨h5, h6⟩⟩⟩
theorem zfp_h {idx k tg ci : Nat} {q : vw_C} {host : String} (h1 : zcl[ci]? = some q) (h2 : Nat.blt k q.2.2 = true) (h3 : zpg (zty ci k) = tg) (h4 : Cond.fieldLinkNest own idx (q.2.1 k).1 (q.2.1 k).2.1 (q.2.1 k).2.2.1 host ∈ zxw) (h5 : (q.2.1 k).2.2.2 = false) : zfp own ini idx (ci + 1) k tg := ⟨ci, q, rfl, h1, Nat.le_of_ble_eq_true h2, h3, Or.inr ⟨h5, host, h4⟩⟩
theorem zk_getsI {idx : Nat} {C n dd : String} (h1 : (C, n, dd, v) ∈ zsi) (h2 : Cond.fieldLink own idx C n dd ∈ lw_all) : zlk zml own nL lg rt ini pc 3 (pc + 3) (.getstatic idx) v [] := ⟨rfl, rfl, Or.inl ⟨rfl, C, n, dd, h1, h2⟩⟩
theorem zk_getsR {idx k : Nat} {C n dd : String} (h1 : (C, n, dd, k) ∈ zsr) (h2 : Cond.fieldLink own idx C n dd ∈ lw_all) : zlk zml own nL lg rt ini pc 3 (pc + 3) (.getstatic idx) v [k] := ⟨rfl, rfl, Or.inr ⟨C, n, dd, k, rfl, h1, h2⟩⟩
theorem zk_newB {idx : Nat} : zlk zml own nL lg rt ini pc len nxt (.new idx) v [] := Or.inl rfl
theorem zk_new {idx ci : Nat} {q : vw_C} (h1 : zcl[ci]? = some q) (h2 : Cond.classLink own idx q.1 ∈ lw_all) (h3 : Cond.instantiable q.1 q.2.2 ∈ lw_all) (h4 : Cond.initialized q.1 ∈ lw_all) : zlk zml own nL lg rt ini pc 3 (pc + 3) (.new idx) v [ci + 1, q.2.2] := Or.inr ⟨rfl, rfl, ci, q, rfl, h1, h2, h3, h4⟩
theorem zk_newarray {t : ArrayType} {j : Nat} (h1 : Nat.blt j 4 = true) (h2 : zat[j]? = some (newarray.typeOf t)) (h3 : Cond.arrayClass (newarray.typeOf t) ∈ lw_all) : zlk zml own nL lg rt ini pc 2 (pc + 2) (.newarray t) v [101 + j] := ⟨rfl, rfl, j, rfl, Nat.le_of_ble_eq_true h1, h2, h3⟩
theorem zk_anewarray {idx j : Nat} {C : String} (h1 : zat[j]? = some (.object C)) (h2 : Cond.classLink own idx C ∈ lw_all) (h3 : C ∈ zao) : zlk zml own nL lg rt ini pc 3 (pc + 3) (.anewarray idx) v [101 + j] := ⟨rfl, rfl, j, C, rfl, h1, h2, h3⟩
def zael (t : FieldType) (κ : Nat) : Prop := ∃ (ci : Nat) (q : vw_C), κ = ci + 1 ∧ zcl[ci]? = some q ∧ (t = .object q.1 ∨ ∃ C : String, t = .object C ∧ Cond.castable q.1 C ∈ zxw)
theorem zael_s {ci : Nat} {q : vw_C} (h1 : zcl[ci]? = some q) : zael (.object q.1) (ci + 1) := ⟨ci, q, rfl, h1, Or.inl rfl⟩
theorem zael_c {ci : Nat} {q : vw_C} {C : String} (h1 : zcl[ci]? = some q) (h2 : Cond.castable q.1 C ∈ zxw) : zael (.object C) (ci + 1) := ⟨ci, q, rfl, h1, Or.inr ⟨C, rfl, h2⟩⟩
theorem zk_aastore {j : Nat} {t : FieldType} {ks : List Nat} (h1 : Nat.ble 4 j = true) (h2 : zat[j]? = some t) (h3 : ∀ κ ∈ ks, zael t κ) : zlk zml own nL lg rt ini pc 1 (pc + 1) .aastore v ((101 + j) :: ks) := ⟨rfl, rfl, j, t, ks, rfl, Nat.le_of_ble_eq_true h1, h2, h3⟩
theorem zk_castB {idx : Nat} : zlk zml own nL lg rt ini pc len nxt (.checkcast idx) v [] := Or.inl rfl
theorem zk_cast {idx ci : Nat} {q : vw_C} (h1 : zcl[ci]? = some q) (h2 : Cond.classLink own idx q.1 ∈ lw_all) : zlk zml own nL lg rt ini pc 3 (pc + 3) (.checkcast idx) v [ci + 1] := Or.inr ⟨rfl, rfl, Or.inl ⟨ci, q, rfl, h1, h2⟩⟩
theorem zk_castA {idx : Nat} (h2 : Cond.classLink own idx "[B" ∈ lw_all) : zlk zml own nL lg rt ini pc 3 (pc + 3) (.checkcast idx) v [102, 0] := Or.inr ⟨rfl, rfl, Or.inr ⟨rfl, h2⟩⟩
theorem zk_instB {idx : Nat} : zlk zml own nL lg rt ini pc len nxt (.instanceof idx) v [] := Or.inl rfl
def zinc (C : String) (κ : Nat) : Prop := ∃ (c2 : Nat) (q2 : vw_C), κ = c2 + 1 ∧ zcl[c2]? = some q2 ∧ (q2.1, C) ∈ znc
theorem zinc_c {C : String} {ci : Nat} {q : vw_C} (h1 : zcl[ci]? = some q) (h2 : (q.1, C) ∈ znc) : zinc C (ci + 1) := ⟨ci, q, rfl, h1, h2⟩
theorem zk_inst {idx ci : Nat} {q : vw_C} {ks : List Nat} (h1 : zcl[ci]? = some q) (h2 : Cond.classLink own idx q.1 ∈ lw_all) (h3 : ∀ κ ∈ ks, zinc q.1 κ) : zlk zml own nL lg rt ini pc 3 (pc + 3) (.instanceof idx) v ((ci + 1) :: ks) := Or.inr ⟨rfl, rfl, ci, q, ks, rfl, h1, h2, h3⟩
theorem zk_virtB {idx : Nat} : zlk zml own nL lg rt ini pc len nxt (.invokevirtual idx) v [] := Or.inl rfl
theorem zk_virt {idx t n : Nat} {ps : List Nat} (h : zvps zml own idx n ps) : zlk zml own nL lg rt ini pc 3 (pc + 3) (.invokevirtual idx) v (t :: n :: ps) := Or.inr ⟨rfl, rfl, t, n, ps, rfl, h⟩
theorem zvps_n {idx n : Nat} : zvps zml own idx n [] := trivial
theorem zvps_c {idx n ci y : Nat} {q : vw_C} {rr : zY} {l : List Nat} (h1 : zcl[ci]? = some q) (h2 : zml[y]? = some rr) (h3 : zlv own idx q.1 rr n) (h4 : Nat.ble (n + 1) (yL rr) = true) (h5 : zvps zml own idx n l) : zvps zml own idx n ((ci + 1) :: y :: l) := ⟨⟨ci, q, rr, rfl, h1, h2, h3, Nat.le_of_ble_eq_true h4⟩, h5⟩
theorem zlv_w {idx n : Nat} {C : String} {rr : zY} (h1 : Cond.initialized (yN rr).cls ∈ lw_all) (h2 : Cond.instanceMethod (yN rr) ∈ lw_all) (h3 : (yN rr).cls = C) (h4 : Cond.methodLink own idx (yN rr) ∈ lw_all) (h5 : Cond.selects C (yN rr) (yN rr) ∈ lw_all) (h6 : zprm (yN rr) n) : zlv own idx C rr n := ⟨h1, h2, Or.inl ⟨h3, h4, h5, h6⟩⟩
theorem zlv_h {idx n : Nat} {C host : String} {rr : zY} (h1 : Cond.initialized (yN rr).cls ∈ lw_all) (h2 : Cond.instanceMethod (yN rr) ∈ lw_all) (h3 : (yN rr).cls = C) (h0 : yT rr = []) (h4 : Cond.methodLinkNest own idx (yN rr) host ∈ zxw) (h5 : Cond.selects C (yN rr) (yN rr) ∈ lw_all) (h6 : zprm (yN rr) n) : zlv own idx C rr n := ⟨h1, h2, Or.inr (Or.inl ⟨h3, h0, ⟨host, h4⟩, h5, h6⟩)⟩
theorem zlv_x {idx n : Nat} {C : String} {rr : zY} {xx : MethodName} {b : ByteArray} {L : Nat} {ret : Option FieldType} (h1 : Cond.initialized (yN rr).cls ∈ lw_all) (h2 : Cond.instanceMethod (yN rr) ∈ lw_all) (h0 : yT rr = []) (h4 : Cond.methodLink own idx xx ∈ lw_all) (h5 : Cond.sameMethod xx.cls xx.cls xx.name xx.desc ∈ lw_all) (h6 : Cond.selects C xx (yN rr) ∈ lw_all) (h7 : Cond.instanceMethod xx ∈ lw_all) (h8 : Cond.code xx b L ret ∈ lw_all) (h9 : zprm xx n) : zlv own idx C rr n := ⟨h1, h2, Or.inr (Or.inr ⟨h0, xx, b, L, ret, h4, h5, h6, h7, h8, h9⟩)⟩
theorem zk_specB {idx : Nat} : zlk zml own nL lg rt ini pc len nxt (.invokespecial idx) v [0] := Or.inl rfl
theorem zk_specO {idx : Nat} (h : Cond.methodLink own idx Lib.objectInit ∈ lw_all) : zlk zml own nL lg rt ini pc 3 (pc + 3) (.invokespecial idx) v [] := Or.inr ⟨rfl, rfl, Or.inl ⟨rfl, h⟩⟩
theorem zk_specI {idx t n y : Nat} {rr : zY} (h1 : zml[y]? = some rr) (h2 : zlc own idx rr n) (h3 : Nat.ble (n + 1) (yL rr) = true) : zlk zml own nL lg rt ini pc 3 (pc + 3) (.invokespecial idx) v [t, n, y] := Or.inr ⟨rfl, rfl, Or.inr (Or.inl ⟨t, n, y, rr, rfl, h1, h2, Nat.le_of_ble_eq_true h3⟩)⟩
theorem zk_specU {idx t n y ci : Nat} {q : vw_C} {rr : zY} (h0 : zcl[ci]? = some q) (h1 : zml[y]? = some rr) (h2 : zlu own idx rr n) (h3 : Nat.ble (n + 1) (yL rr) = true) : zlk zml own nL lg rt ini pc 3 (pc + 3) (.invokespecial idx) v [t, n, y, ci + 1] := Or.inr ⟨rfl, rfl, Or.inr (Or.inr ⟨t, n, y, ci, q, rr, rfl, h0, h1, h2, Nat.le_of_ble_eq_true h3⟩)⟩
theorem zlc_w {idx n : Nat} {rr : zY} (h0 : yT rr = []) (h1 : yR rr = none) (h2 : (yN rr).name = "<init>") (h3 : Cond.initialized (yN rr).cls ∈ lw_all) (h4 : Cond.instanceMethod (yN rr) ∈ lw_all) (h5 : zprm (yN rr) n) (h6 : Cond.methodLink own idx (yN rr) ∈ lw_all) : zlc own idx rr n := ⟨h0, h1, h2, h3, h4, h5, Or.inl h6⟩
theorem zlc_h {idx n : Nat} {host : String} {rr : zY} (h0 : yT rr = []) (h1 : yR rr = none) (h2 : (yN rr).name = "<init>") (h3 : Cond.initialized (yN rr).cls ∈ lw_all) (h4 : Cond.instanceMethod (yN rr) ∈ lw_all) (h5 : zprm (yN rr) n) (h6 : Cond.methodLinkNest own idx (yN rr) host ∈ zxw) : zlc own idx rr n := ⟨h0, h1, h2, h3, h4, h5, Or.inr ⟨host, h6⟩⟩
theorem zk_statB {idx : Nat} : zlk zml own nL lg rt ini pc len nxt (.invokestatic idx) v [] := Or.inl rfl
theorem zk_statI {idx : Nat} (h : Cond.methodLink own idx arraycopyName ∈ lw_all) : zlk zml own nL lg rt ini pc 3 (pc + 3) (.invokestatic idx) v [101] := Or.inr ⟨rfl, rfl, Or.inl ⟨rfl, h⟩⟩
theorem zk_statJ {idx : Nat} (h : Cond.methodLink own idx arraycopyName ∈ lw_all) : zlk zml own nL lg rt ini pc 3 (pc + 3) (.invokestatic idx) v [110] := Or.inr ⟨rfl, rfl, Or.inr (Or.inl ⟨rfl, h⟩)⟩
theorem zk_stat {idx t n y : Nat} {rr : zY} (h1 : zml[y]? = some rr) (h2 : zls own idx rr n) (h3 : Nat.ble n (yL rr) = true) : zlk zml own nL lg rt ini pc 3 (pc + 3) (.invokestatic idx) v [t, n, y] := Or.inr ⟨rfl, rfl, Or.inr (Or.inr ⟨t, n, y, rr, rfl, h1, h2, Nat.le_of_ble_eq_true h3⟩)⟩
theorem zls_w {idx n : Nat} {rr : zY} (h0 : yT rr = []) (h1 : Cond.static (yN rr) ∈ lw_all) (h2 : Cond.initialized (yN rr).cls ∈ lw_all) (h3 : zprm (yN rr) n) (h4 : Cond.methodLink own idx (yN rr) ∈ lw_all) : zls own idx rr n := ⟨h0, h1, h2, h3, Or.inl h4⟩
theorem zls_h {idx n : Nat} {host : String} {rr : zY} (h0 : yT rr = []) (h1 : Cond.static (yN rr) ∈ lw_all) (h2 : Cond.initialized (yN rr).cls ∈ lw_all) (h3 : zprm (yN rr) n) (h4 : Cond.methodLinkNest own idx (yN rr) host ∈ zxw) : zls own idx rr n := ⟨h0, h1, h2, h3, Or.inr ⟨host, h4⟩⟩
theorem zk_1 (h : zlk zml own nL lg rt ini pc 1 (pc + 1) i v x = ((1 : Nat) = 1 ∧ pc + 1 = pc + 1)) : zlk zml own nL lg rt ini pc 1 (pc + 1) i v x := by rw [h]; exact ⟨rfl, rfl⟩
theorem zk_athrow : zlk zml own nL lg rt ini pc 1 nxt .athrow v x := rfl
theorem zk_iret1 : zlk zml own nL lg (some .int) ini pc 1 nxt .ireturn v [1] := ⟨rfl, Or.inl ⟨rfl, rfl⟩⟩
theorem zk_iret0 : zlk zml own nL lg (some .boolean) ini pc 1 nxt .ireturn v [0] := ⟨rfl, Or.inr (Or.inl ⟨rfl, rfl⟩)⟩
theorem zk_iret2 : zlk zml own nL lg (some .char) ini pc 1 nxt .ireturn v [2] := ⟨rfl, Or.inr (Or.inr (Or.inl ⟨rfl, rfl⟩))⟩
theorem zk_iret3 : zlk zml own nL lg (some .byte) ini pc 1 nxt .ireturn v [3] := ⟨rfl, Or.inr (Or.inr (Or.inr ⟨rfl, rfl⟩))⟩
theorem zk_aretO {n : String} : zlk zml own nL lg (some (.object n)) ini pc 1 nxt .areturn v x := ⟨rfl, _, rfl, Or.inl ⟨n, rfl⟩⟩
theorem zk_aretA {t : FieldType} : zlk zml own nL lg (some (.array t)) ini pc 1 nxt .areturn v x := ⟨rfl, _, rfl, Or.inr ⟨t, rfl⟩⟩
theorem zk_lret : zlk zml own nL lg (some .long) ini pc 1 nxt .lreturn v x := ⟨rfl, rfl⟩
theorem zk_vret : zlk zml own nL lg none ini pc 1 nxt .return_ v x := ⟨rfl, rfl⟩
end ZOK
section
variable {zml : List zY} {own : String} {nL : Nat} {lg : Bool} {rt : Option FieldType} {ini : Prop} {pc : Nat} {v : Int32} {x : List Nat}
end
def zq_0 : vw_C := (RX0, TX0, 16)
def zq_1 : vw_C := (RX1, TX1, 9)
def zq_2 : vw_C := (RX2, TX2, 9)
def zq_3 : vw_C := (RX3, TX3, 8)
def zq_4 : vw_C := (RX4, TX4, 20)
def zq_5 : vw_C := (RX5, TX5, 3)
def zq_6 : vw_C := (RX6, TX6, 40)
def zq_7 : vw_C := (RX7, TX7, 24)
def zq_8 : vw_C := (RX8, TX8, 8)
def zq_9 : vw_C := (RX9, TX9, 2)
def zq_10 : vw_C := (RX10, TX10, 3)
def zq_11 : vw_C := (RX11, TX11, 3)
def zq_12 : vw_C := (RX13, TX13, 4)
def zq_13 : vw_C := (RX14, TX14, 4)
def zq_14 : vw_C := (RX15, TX15, 2)
def zq_15 : vw_C := (RX16, TX16, 3)
def zq_16 : vw_C := (RJ3, TJ3, 4)
theorem zkc_b_m50 : (Int8.ofInt (-50)).toInt32 = (-50) := by decide
theorem zkc_b_m30 : (Int8.ofInt (-30)).toInt32 = (-30) := by decide
theorem zkc_b_m20 : (Int8.ofInt (-20)).toInt32 = (-20) := by decide
theorem zkc_b_m10 : (Int8.ofInt (-10)).toInt32 = (-10) := by decide
theorem zkc_b_m5 : (Int8.ofInt (-5)).toInt32 = (-5) := by decide
theorem zkc_b_6 : (Int8.ofInt 6).toInt32 = 6 := by decide
theorem zkc_b_7 : (Int8.ofInt 7).toInt32 = 7 := by decide
theorem zkc_b_8 : (Int8.ofInt 8).toInt32 = 8 := by decide
theorem zkc_b_9 : (Int8.ofInt 9).toInt32 = 9 := by decide
theorem zkc_b_10 : (Int8.ofInt 10).toInt32 = 10 := by decide
theorem zkc_b_12 : (Int8.ofInt 12).toInt32 = 12 := by decide
theorem zkc_b_13 : (Int8.ofInt 13).toInt32 = 13 := by decide
theorem zkc_b_15 : (Int8.ofInt 15).toInt32 = 15 := by decide
theorem zkc_b_16 : (Int8.ofInt 16).toInt32 = 16 := by decide
theorem zkc_b_20 : (Int8.ofInt 20).toInt32 = 20 := by decide
theorem zkc_b_24 : (Int8.ofInt 24).toInt32 = 24 := by decide
theorem zkc_b_25 : (Int8.ofInt 25).toInt32 = 25 := by decide
theorem zkc_b_30 : (Int8.ofInt 30).toInt32 = 30 := by decide
theorem zkc_b_31 : (Int8.ofInt 31).toInt32 = 31 := by decide
theorem zkc_b_32 : (Int8.ofInt 32).toInt32 = 32 := by decide
theorem zkc_b_40 : (Int8.ofInt 40).toInt32 = 40 := by decide
theorem zkc_b_44 : (Int8.ofInt 44).toInt32 = 44 := by decide
theorem zkc_b_48 : (Int8.ofInt 48).toInt32 = 48 := by decide
theorem zkc_b_50 : (Int8.ofInt 50).toInt32 = 50 := by decide
theorem zkc_b_57 : (Int8.ofInt 57).toInt32 = 57 := by decide
theorem zkc_b_59 : (Int8.ofInt 59).toInt32 = 59 := by decide
theorem zkc_b_60 : (Int8.ofInt 60).toInt32 = 60 := by decide
theorem zkc_b_62 : (Int8.ofInt 62).toInt32 = 62 := by decide
theorem zkc_b_97 : (Int8.ofInt 97).toInt32 = 97 := by decide
theorem zkc_b_99 : (Int8.ofInt 99).toInt32 = 99 := by decide
theorem zkc_b_100 : (Int8.ofInt 100).toInt32 = 100 := by decide
theorem zkc_b_108 : (Int8.ofInt 108).toInt32 = 108 := by decide
theorem zkc_b_120 : (Int8.ofInt 120).toInt32 = 120 := by decide
theorem zkc_b_122 : (Int8.ofInt 122).toInt32 = 122 := by decide
theorem zkc_i_m8 : Int32.ofInt (-8) = (-8) := by decide
theorem zkc_i_m1 : Int32.ofInt (-1) = (-1) := by decide
theorem zkc_i_0 : Int32.ofInt 0 = 0 := by decide
theorem zkc_i_1 : Int32.ofInt 1 = 1 := by decide
theorem zkc_i_2 : Int32.ofInt 2 = 2 := by decide
theorem zkc_i_3 : Int32.ofInt 3 = 3 := by decide
theorem zkc_i_4 : Int32.ofInt 4 = 4 := by decide
theorem zkc_i_5 : Int32.ofInt 5 = 5 := by decide
theorem zkc_i_6 : Int32.ofInt 6 = 6 := by decide
theorem zkc_s_200 : (Int16.ofInt 200).toInt32 = 200 := by decide
theorem zkc_s_255 : (Int16.ofInt 255).toInt32 = 255 := by decide
theorem zkc_s_300 : (Int16.ofInt 300).toInt32 = 300 := by decide
theorem zkc_s_333 : (Int16.ofInt 333).toInt32 = 333 := by decide
theorem zkc_s_334 : (Int16.ofInt 334).toInt32 = 334 := by decide
theorem zkc_s_400 : (Int16.ofInt 400).toInt32 = 400 := by decide
theorem zkc_s_432 : (Int16.ofInt 432).toInt32 = 432 := by decide
theorem zkc_s_500 : (Int16.ofInt 500).toInt32 = 500 := by decide
theorem zkc_s_1000 : (Int16.ofInt 1000).toInt32 = 1000 := by decide
theorem zkc_s_2000 : (Int16.ofInt 2000).toInt32 = 2000 := by decide
theorem zsl_0 : ("SledHouse", 7, "go", 0) ∈ zsl := List.mem_of_getElem? (i := 0) rfl
theorem zsl_1 : ("SledHouse", 13, "stay", 1) ∈ zsl := List.mem_of_getElem? (i := 1) rfl
theorem zsl_2 : ("SledHouse", 15, "feed", 2) ∈ zsl := List.mem_of_getElem? (i := 2) rfl
theorem zsl_3 : ("SledHouse", 17, "leave", 3) ∈ zsl := List.mem_of_getElem? (i := 3) rfl
theorem zsl_4 : ("SledHouse", 21, "run", 4) ∈ zsl := List.mem_of_getElem? (i := 4) rfl
theorem zsl_5 : ("SledHouse", 23, "rest", 5) ∈ zsl := List.mem_of_getElem? (i := 5) rfl
theorem zsl_6 : ("SledHouse", 25, "weak", 6) ∈ zsl := List.mem_of_getElem? (i := 6) rfl
theorem zsl_7 : ("SledHouse", 27, "mean", 7) ∈ zsl := List.mem_of_getElem? (i := 7) rfl
theorem zsl_8 : ("SledHouse", 29, "cold", 8) ∈ zsl := List.mem_of_getElem? (i := 8) rfl
theorem zsl_9 : ("SledHouse", 31, "meals", 9) ∈ zsl := List.mem_of_getElem? (i := 9) rfl
theorem zsl_10 : ("SledHouse", 33, "dogs", 10) ∈ zsl := List.mem_of_getElem? (i := 10) rfl
theorem zsl_11 : ("SledHouse", 35, "left", 11) ∈ zsl := List.mem_of_getElem? (i := 11) rfl
theorem zsl_12 : ("SledHouse", 37, "hour", 12) ∈ zsl := List.mem_of_getElem? (i := 12) rfl
theorem zsl_13 : ("SledHouse", 39, "post", 13) ∈ zsl := List.mem_of_getElem? (i := 13) rfl
theorem zsl_14 : ("SledHouse", 41, "load", 14) ∈ zsl := List.mem_of_getElem? (i := 14) rfl
theorem zsl_15 : ("SledHouse", 52, "at", 15) ∈ zsl := List.mem_of_getElem? (i := 15) rfl
theorem zsl_16 : ("SledHouse", 60, "from", 16) ∈ zsl := List.mem_of_getElem? (i := 16) rfl
theorem zsl_17 : ("SledHouse", 66, "to", 17) ∈ zsl := List.mem_of_getElem? (i := 17) rfl
theorem zsl_18 : ("SledHouse", 78, "fine", 18) ∈ zsl := List.mem_of_getElem? (i := 18) rfl
theorem zsl_19 : ("SledHouse", 80, "for", 19) ∈ zsl := List.mem_of_getElem? (i := 19) rfl
theorem zsl_20 : ("SledHouse$Plan", 21, "when", 20) ∈ zsl := List.mem_of_getElem? (i := 20) rfl
theorem zsl_21 : ("SledHouse$Reader", 58, "", 21) ∈ zsl := List.mem_of_getElem? (i := 21) rfl
theorem zsl_22 : ("SledHouse$Rule", 17, "when", 22) ∈ zsl := List.mem_of_getElem? (i := 22) rfl
theorem zsl_23 : ("SledHouse$Rule", 29, "and", 23) ∈ zsl := List.mem_of_getElem? (i := 23) rfl
theorem zsl_24 : ("SledHouseModel", 192, "go", 24) ∈ zsl := List.mem_of_getElem? (i := 24) rfl
theorem zsl_25 : ("SledHouseModel", 194, "stay", 25) ∈ zsl := List.mem_of_getElem? (i := 25) rfl
theorem zsl_26 : ("SledHouseModel", 196, "feed", 26) ∈ zsl := List.mem_of_getElem? (i := 26) rfl
theorem zsl_27 : ("SledHouseModel", 198, "leave", 27) ∈ zsl := List.mem_of_getElem? (i := 27) rfl
theorem zsl_28 : ("SledHouseModel", 200, "run", 28) ∈ zsl := List.mem_of_getElem? (i := 28) rfl
theorem zsl_29 : ("SledHouseModel", 202, "rest", 29) ∈ zsl := List.mem_of_getElem? (i := 29) rfl
theorem zsl_30 : ("SledHouseModel", 204, "weak", 30) ∈ zsl := List.mem_of_getElem? (i := 30) rfl
theorem zsl_31 : ("SledHouseModel", 206, "mean", 31) ∈ zsl := List.mem_of_getElem? (i := 31) rfl
theorem zsl_32 : ("SledHouseModel", 208, "cold", 32) ∈ zsl := List.mem_of_getElem? (i := 32) rfl
theorem zsl_33 : ("SledHouseModel", 209, "meals", 33) ∈ zsl := List.mem_of_getElem? (i := 33) rfl
theorem zsl_34 : ("SledHouseModel", 211, "dogs", 34) ∈ zsl := List.mem_of_getElem? (i := 34) rfl
theorem zsl_35 : ("SledHouseModel", 213, "left", 35) ∈ zsl := List.mem_of_getElem? (i := 35) rfl
theorem zsl_36 : ("SledHouseModel", 215, "hour", 36) ∈ zsl := List.mem_of_getElem? (i := 36) rfl
theorem zsl_37 : ("SledHouseModel", 217, "post", 37) ∈ zsl := List.mem_of_getElem? (i := 37) rfl
theorem zsl_38 : ("SledHouseModel", 219, "load", 38) ∈ zsl := List.mem_of_getElem? (i := 38) rfl
theorem zsl_39 : ("SledHouseModel", 230, "when", 39) ∈ zsl := List.mem_of_getElem? (i := 39) rfl
theorem zsl_40 : ("SledHouseModel", 239, "and", 40) ∈ zsl := List.mem_of_getElem? (i := 40) rfl
theorem zsl_41 : ("SledHouseModel", 253, "fine", 41) ∈ zsl := List.mem_of_getElem? (i := 41) rfl
theorem zsl_42 : ("SledHouseModel", 255, "for", 42) ∈ zsl := List.mem_of_getElem? (i := 42) rfl
theorem zsl_43 : ("SledHouseModel", 261, "at", 43) ∈ zsl := List.mem_of_getElem? (i := 43) rfl
theorem zsl_44 : ("SledHouseModel", 262, "from", 44) ∈ zsl := List.mem_of_getElem? (i := 44) rfl
theorem zsl_45 : ("SledHouseModel", 264, "to", 45) ∈ zsl := List.mem_of_getElem? (i := 45) rfl
theorem zsl_46 : ("java/lang/String", 7, "", 46) ∈ zsl := List.mem_of_getElem? (i := 46) rfl
def zy_J0_init : zY := (zc_J0_init_0, [], 1, yJ0_init, cJ0_init, (Option.none : Option Jvm.ClassFile.FieldType), [], false)
def zy_J0_init_2 : zY := (zc_J0_init_2_0, [], 5, yJ0_init_2, cJ0_init_2, (Option.none : Option Jvm.ClassFile.FieldType), [], false)
def zy_J1_init : zY := (zc_J1_init_0, [], 5, yJ1_init, cJ1_init, (Option.none : Option Jvm.ClassFile.FieldType), [], false)
def zy_J2_init : zY := (zc_J2_init_0, [], 5, yJ2_init, cJ2_init, (Option.none : Option Jvm.ClassFile.FieldType), [], false)
def zy_J3_init : zY := (zc_J3_init_0, [], 4, yJ3_init, cJ3_init, (Option.none : Option Jvm.ClassFile.FieldType), [], false)
def zy_J3_rangeCheck : zY := (zc_J3_rangeCheck_0, [], 3, yJ3_rangeCheck, cJ3_rangeCheck, (Option.some (Jvm.ClassFile.FieldType.object "java/lang/Void")), [], false)
def zy_J3_checkBoundsOffCount : zY := (zc_J3_checkBoundsOffCount_0, [], 3, yJ3_checkBoundsOffCount, cJ3_checkBoundsOffCount, (Option.some Jvm.ClassFile.FieldType.int), [], false)
def zy_J3_init_2 : zY := (zc_J3_init_2_0, [], 6, yJ3_init_2, cJ3_init_2, (Option.none : Option Jvm.ClassFile.FieldType), [], false)
def zy_J3_equals : zY := (zc_J3_equals_0, [], 3, yJ3_equals, cJ3_equals, (Option.some Jvm.ClassFile.FieldType.boolean), [], false)
def zy_J3_hashCode : zY := (zc_J3_hashCode_0, [], 2, yJ3_hashCode, cJ3_hashCode, (Option.some Jvm.ClassFile.FieldType.int), [], false)
def zy_J3_isLatin1 : zY := (zc_J3_isLatin1_0, [], 1, yJ3_isLatin1, cJ3_isLatin1, (Option.some Jvm.ClassFile.FieldType.boolean), [], false)
def zy_J3_length : zY := (zc_J3_length_0, [], 1, yJ3_length, cJ3_length, (Option.some Jvm.ClassFile.FieldType.int), [], false)
def zy_J3_coder : zY := (zc_J3_coder_0, [], 1, yJ3_coder, cJ3_coder, (Option.some Jvm.ClassFile.FieldType.byte), [], false)
def zy_J3_charAt : zY := (zc_J3_charAt_0, [], 2, yJ3_charAt, cJ3_charAt, (Option.some Jvm.ClassFile.FieldType.char), [], false)
def zy_J3_checkIndex : zY := (zc_J3_checkIndex_0, [], 2, yJ3_checkIndex, cJ3_checkIndex, (Option.none : Option Jvm.ClassFile.FieldType), [], false)
def zy_J4_checkFromIndexSize : zY := (zc_J4_checkFromIndexSize_0, [], 4, yJ4_checkFromIndexSize, cJ4_checkFromIndexSize, (Option.some Jvm.ClassFile.FieldType.int), [], false)
def zy_J4_checkIndex : zY := (zc_J4_checkIndex_0, [], 3, yJ4_checkIndex, cJ4_checkIndex, (Option.some Jvm.ClassFile.FieldType.int), [], false)
def zy_J5_compress : zY := (zc_J5_compress_0, [], 6, yJ5_compress, cJ5_compress, (Option.some (Jvm.ClassFile.FieldType.array Jvm.ClassFile.FieldType.byte)), [], false)
def zy_J5_compress_2 : zY := (zc_J5_compress_2_0, [], 7, yJ5_compress_2, cJ5_compress_2, (Option.some Jvm.ClassFile.FieldType.int), [], false)
def zy_J5_coderFromArrayLen : zY := (zc_J5_coderFromArrayLen_0, [], 2, yJ5_coderFromArrayLen, cJ5_coderFromArrayLen, (Option.some Jvm.ClassFile.FieldType.byte), [], false)
def zy_J6_equals : zY := (zc_J6_equals_0, [], 3, yJ6_equals, cJ6_equals, (Option.some Jvm.ClassFile.FieldType.boolean), [], false)
def zy_J6_hashCode : zY := (zc_J6_hashCode_0, [], 1, yJ6_hashCode, cJ6_hashCode, (Option.some Jvm.ClassFile.FieldType.int), [], false)
def zy_J6_charAt : zY := (zc_J6_charAt_0, [], 2, yJ6_charAt, cJ6_charAt, (Option.some Jvm.ClassFile.FieldType.char), [], false)
def zy_J7_vectorizedHashCode : zY := (zc_J7_vectorizedHashCode_0, [], 5, yJ7_vectorizedHashCode, cJ7_vectorizedHashCode, (Option.some Jvm.ClassFile.FieldType.int), [], false)
def zy_J7_signedHashCode : zY := (zc_J7_signedHashCode_0, [], 6, yJ7_signedHashCode, cJ7_signedHashCode, (Option.some Jvm.ClassFile.FieldType.int), [], false)
def zy_J8_max : zY := (zc_J8_max_0, [], 2, yJ8_max, cJ8_max, (Option.some Jvm.ClassFile.FieldType.int), [], false)
def zy_J8_min : zY := (zc_J8_min_0, [], 2, yJ8_min, cJ8_min, (Option.some Jvm.ClassFile.FieldType.int), [], false)
def zy_X0_init : zY := (zc_X0_init_0, [], 1, yX0_init, cX0_init, (Option.none : Option Jvm.ClassFile.FieldType), [], false)
def zy_X0_leg : zY := (zc_X0_leg_0, [4, 80, 83, 3], 4, yX0_leg, cX0_leg, (Option.some Jvm.ClassFile.FieldType.int), [(4, 80, 83, 133)], false)
def zy_X0_begins : zY := (zc_X0_begins_0, [], 1, yX0_begins, cX0_begins, (Option.none : Option Jvm.ClassFile.FieldType), [], false)
def zy_X0_must : zY := (zc_X0_must_0, [], 3, yX0_must, cX0_must, (Option.none : Option Jvm.ClassFile.FieldType), [], false)
def zy_X0_in : zY := (zc_X0_in_0, [], 3, yX0_in, cX0_in, (Option.some Jvm.ClassFile.FieldType.boolean), [], false)
def zy_X0_refuses : zY := (zc_X0_refuses_0, [], 2, yX0_refuses, cX0_refuses, (Option.some Jvm.ClassFile.FieldType.int), [], false)
def zy_X0_cold : zY := (zc_X0_cold_0, [], 5, yX0_cold, cX0_cold, (Option.some Jvm.ClassFile.FieldType.boolean), [], false)
def zy_X0_feed : zY := (zc_X0_feed_0, [], 6, yX0_feed, cX0_feed, (Option.some Jvm.ClassFile.FieldType.int), [], false)
def zy_X0_word : zY := (zc_X0_word_0, [], 3, yX0_word, cX0_word, (Option.none : Option Jvm.ClassFile.FieldType), [], false)
def zy_X0_plan : zY := (zc_X0_plan_0, [18, 45, 48, 3], 4, yX0_plan, cX0_plan, (Option.some Jvm.ClassFile.FieldType.int), [(18, 45, 48, 133)], false)
def zy_X0_takes : zY := (zc_X0_takes_0, [], 2, yX0_takes, cX0_takes, (Option.some Jvm.ClassFile.FieldType.boolean), [], false)
def zy_X0_actOf : zY := (zc_X0_actOf_0, [], 3, yX0_actOf, cX0_actOf, (Option.some Jvm.ClassFile.FieldType.int), [], false)
def zy_X0_nameOf : zY := (zc_X0_nameOf_0, [], 3, yX0_nameOf, cX0_nameOf, (Option.some Jvm.ClassFile.FieldType.int), [], false)
def zy_X0_laws : zY := (zc_X0_laws_0, [12, 126, 129, 3], 5, yX0_laws, cX0_laws, (Option.some Jvm.ClassFile.FieldType.int), [(12, 126, 129, 133)], false)
def zy_X0_lawOf : zY := (zc_X0_lawOf_0, [], 3, yX0_lawOf, cX0_lawOf, (Option.some (Jvm.ClassFile.FieldType.object "SledHouse$Law")), [], false)
def zy_X0_fault : zY := (zc_X0_fault_0, [], 1, yX0_fault, cX0_fault, (Option.some Jvm.ClassFile.FieldType.int), [], false)
def zy_X0_where : zY := (zc_X0_where_0, [], 1, yX0_where, cX0_where, (Option.some Jvm.ClassFile.FieldType.int), [], false)
def zy_X0_team : zY := (zc_X0_team_0, [4, 126, 129, 3], 7, yX0_team, cX0_team, (Option.some Jvm.ClassFile.FieldType.int), [(4, 126, 129, 133)], false)
def zy_X0_follow : zY := (zc_X0_follow_0, [4, 62, 65, 3], 4, yX0_follow, cX0_follow, (Option.some Jvm.ClassFile.FieldType.boolean), [(4, 62, 65, 133)], false)
def zy_X0_isTeam : zY := (zc_X0_isTeam_0, [], 2, yX0_isTeam, cX0_isTeam, (Option.some Jvm.ClassFile.FieldType.boolean), [], false)
def zy_X0_gap : zY := (zc_X0_gap_0, [4, 116, 117, 3], 5, yX0_gap, cX0_gap, (Option.some Jvm.ClassFile.FieldType.int), [(4, 116, 117, 133)], false)
def zy_X0_each : zY := (zc_X0_each_0, [4, 36, 39, 3], 3, yX0_each, cX0_each, (Option.some Jvm.ClassFile.FieldType.boolean), [(4, 36, 39, 133)], false)
def zy_X0_run : zY := (zc_X0_run_0, [4, 29, 32, 3], 5, yX0_run, cX0_run, (Option.some Jvm.ClassFile.FieldType.int), [(4, 29, 32, 133)], false)
def zy_X0_about : zY := (zc_X0_about_0, [], 4, yX0_about, cX0_about, (Option.some Jvm.ClassFile.FieldType.int), [], false)
def zy_X0_dog : zY := (zc_X0_dog_0, [], 5, yX0_dog, cX0_dog, (Option.some Jvm.ClassFile.FieldType.int), [], false)
def zy_X0_time : zY := (zc_X0_time_0, [], 4, yX0_time, cX0_time, (Option.some Jvm.ClassFile.FieldType.int), [], false)
def zy_X0_did : zY := (zc_X0_did_0, [], 2, yX0_did, cX0_did, (Option.some Jvm.ClassFile.FieldType.int), [], false)
def zy_X0_result : zY := (zc_X0_result_0, [], 3, yX0_result, cX0_result, (Option.some Jvm.ClassFile.FieldType.int), [], false)
def zy_X0_home : zY := (zc_X0_home_0, [], 2, yX0_home, cX0_home, (Option.some (Jvm.ClassFile.FieldType.object "SledHouse$Team")), [], false)
def zy_X0_resultOf : zY := (zc_X0_resultOf_0, [], 9, yX0_resultOf, cX0_resultOf, (Option.some Jvm.ClassFile.FieldType.int), [], false)
def zy_X0_lacks : zY := (zc_X0_lacks_0, [], 4, yX0_lacks, cX0_lacks, (Option.some Jvm.ClassFile.FieldType.int), [], false)
def zy_X0_place : zY := (zc_X0_place_0, [], 5, yX0_place, cX0_place, (Option.some Jvm.ClassFile.FieldType.int), [], false)
def zy_X0_isAhead : zY := (zc_X0_isAhead_0, [], 5, yX0_isAhead, cX0_isAhead, (Option.some Jvm.ClassFile.FieldType.boolean), [], false)
def zy_X0_came : zY := (zc_X0_came_0, [], 5, yX0_came, cX0_came, (Option.some Jvm.ClassFile.FieldType.int), [], false)
def zy_X0_spot : zY := (zc_X0_spot_0, [], 9, yX0_spot, cX0_spot, (Option.some Jvm.ClassFile.FieldType.int), [], false)
def zy_X0_signs : zY := (zc_X0_signs_0, [], 2, yX0_signs, cX0_signs, (Option.some Jvm.ClassFile.FieldType.int), [], false)
def zy_X0_replay : zY := (zc_X0_replay_0, [4, 47, 50, 3], 6, yX0_replay, cX0_replay, (Option.some Jvm.ClassFile.FieldType.int), [(4, 47, 50, 133)], false)
def zy_X0_keep : zY := (zc_X0_keep_0, [], 1, yX0_keep, cX0_keep, (Option.some Jvm.ClassFile.FieldType.boolean), [], false)
def zy_X0_back : zY := (zc_X0_back_0, [], 1, yX0_back, cX0_back, (Option.some Jvm.ClassFile.FieldType.boolean), [], false)
def zy_X0_law : zY := (zc_X0_law_0, [], 3, yX0_law, cX0_law, (Option.some Jvm.ClassFile.FieldType.int), [], false)
def zy_X0_planned : zY := (zc_X0_planned_0, [], 3, yX0_planned, cX0_planned, (Option.some Jvm.ClassFile.FieldType.int), [], false)
def zy_X0_count : zY := (zc_X0_count_0, [], 2, yX0_count, cX0_count, (Option.some Jvm.ClassFile.FieldType.int), [], false)
def zy_X0_trouble : zY := (zc_X0_trouble_0, [], 1, yX0_trouble, cX0_trouble, (Option.some Jvm.ClassFile.FieldType.int), [], false)
def zy_X1_init : zY := (zc_X1_init_0, [], 2, yX1_init, cX1_init, (Option.none : Option Jvm.ClassFile.FieldType), [], false)
def zy_X1_begin : zY := (zc_X1_begin_0, [], 2, yX1_begin, cX1_begin, (Option.none : Option Jvm.ClassFile.FieldType), [], false)
def zy_X1_next : zY := (zc_X1_next_0, [], 3, yX1_next, cX1_next, (Option.none : Option Jvm.ClassFile.FieldType), [], false)
def zy_X1_see : zY := (zc_X1_see_0, [], 2, yX1_see, cX1_see, (Option.some Jvm.ClassFile.FieldType.int), [], false)
def zy_X1_isSmall : zY := (zc_X1_isSmall_0, [], 1, yX1_isSmall, cX1_isSmall, (Option.some Jvm.ClassFile.FieldType.boolean), [], false)
def zy_X1_isDigit : zY := (zc_X1_isDigit_0, [], 1, yX1_isDigit, cX1_isDigit, (Option.some Jvm.ClassFile.FieldType.boolean), [], false)
def zy_X1_isWord : zY := (zc_X1_isWord_0, [], 2, yX1_isWord, cX1_isWord, (Option.some Jvm.ClassFile.FieldType.boolean), [], false)
def zy_X1_fail : zY := (zc_X1_fail_0, [], 2, yX1_fail, cX1_fail, (Option.some (Jvm.ClassFile.FieldType.object "SledHouse$Refused")), [], false)
def zy_X1_takes : zY := (zc_X1_takes_0, [], 2, yX1_takes, cX1_takes, (Option.some Jvm.ClassFile.FieldType.boolean), [], false)
def zy_X1_takes_2 : zY := (zc_X1_takes_2_0, [], 2, yX1_takes_2, cX1_takes_2, (Option.some Jvm.ClassFile.FieldType.boolean), [], false)
def zy_X1_number : zY := (zc_X1_number_0, [], 2, yX1_number, cX1_number, (Option.some Jvm.ClassFile.FieldType.int), [], false)
def zy_X1_mustEnd : zY := (zc_X1_mustEnd_0, [], 1, yX1_mustEnd, cX1_mustEnd, (Option.none : Option Jvm.ClassFile.FieldType), [], false)
def zy_X1_must : zY := (zc_X1_must_0, [], 2, yX1_must, cX1_must, (Option.none : Option Jvm.ClassFile.FieldType), [], false)
def zy_X2_init : zY := (zc_X2_init_0, [], 1, yX2_init, cX2_init, (Option.none : Option Jvm.ClassFile.FieldType), [], false)
def zy_X2_by : zY := (zc_X2_by_0, [], 2, yX2_by, cX2_by, (Option.some (Jvm.ClassFile.FieldType.object "SledHouse$Refused")), [], false)
def zy_X2_at : zY := (zc_X2_at_0, [], 3, yX2_at, cX2_at, (Option.some (Jvm.ClassFile.FieldType.object "SledHouse$Refused")), [], false)
def zy_X3_init : zY := (zc_X3_init_0, [], 2, yX3_init, cX3_init, (Option.none : Option Jvm.ClassFile.FieldType), [], false)
def zy_X3_goesOn : zY := (zc_X3_goesOn_0, [], 3, yX3_goesOn, cX3_goesOn, (Option.some Jvm.ClassFile.FieldType.boolean), [], false)
def zy_X3_trail : zY := (zc_X3_trail_0, [], 3, yX3_trail, cX3_trail, (Option.some Jvm.ClassFile.FieldType.int), [], false)
def zy_X3_become : zY := (zc_X3_become_0, [], 3, yX3_become, cX3_become, (Option.none : Option Jvm.ClassFile.FieldType), [], false)
def zy_X4_init : zY := (zc_X4_init_0, [], 2, yX4_init, cX4_init, (Option.none : Option Jvm.ClassFile.FieldType), [], false)
def zy_X4_enter : zY := (zc_X4_enter_0, [], 7, yX4_enter, cX4_enter, (Option.none : Option Jvm.ClassFile.FieldType), [], false)
def zy_X4_begin : zY := (zc_X4_begin_0, [], 2, yX4_begin, cX4_begin, (Option.none : Option Jvm.ClassFile.FieldType), [], false)
def zy_X4_step : zY := (zc_X4_step_0, [], 6, yX4_step, cX4_step, (Option.none : Option Jvm.ClassFile.FieldType), [], false)
def zy_X4_told : zY := (zc_X4_told_0, [], 4, yX4_told, cX4_told, (Option.some Jvm.ClassFile.FieldType.int), [], false)
def zy_X4_weakest : zY := (zc_X4_weakest_0, [], 3, yX4_weakest, cX4_weakest, (Option.some (Jvm.ClassFile.FieldType.object "SledHouse$Dog")), [], false)
def zy_X4_mean : zY := (zc_X4_mean_0, [], 3, yX4_mean, cX4_mean, (Option.some Jvm.ClassFile.FieldType.int), [], false)
def zy_X4_pulling : zY := (zc_X4_pulling_0, [], 1, yX4_pulling, cX4_pulling, (Option.some Jvm.ClassFile.FieldType.int), [], false)
def zy_X4_inState : zY := (zc_X4_inState_0, [], 4, yX4_inState, cX4_inState, (Option.some Jvm.ClassFile.FieldType.int), [], false)
def zy_X4_load : zY := (zc_X4_load_0, [], 1, yX4_load, cX4_load, (Option.some Jvm.ClassFile.FieldType.int), [], false)
def zy_X4_go : zY := (zc_X4_go_0, [], 7, yX4_go, cX4_go, (Option.none : Option Jvm.ClassFile.FieldType), [], false)
def zy_X4_comes : zY := (zc_X4_comes_0, [], 4, yX4_comes, cX4_comes, (Option.none : Option Jvm.ClassFile.FieldType), [], false)
def zy_X4_rests : zY := (zc_X4_rests_0, [], 5, yX4_rests, cX4_rests, (Option.none : Option Jvm.ClassFile.FieldType), [], false)
def zy_X4_gain : zY := (zc_X4_gain_0, [], 3, yX4_gain, cX4_gain, (Option.none : Option Jvm.ClassFile.FieldType), [], false)
def zy_X4_sign : zY := (zc_X4_sign_0, [], 3, yX4_sign, cX4_sign, (Option.none : Option Jvm.ClassFile.FieldType), [], false)
def zy_X4_isQuiet : zY := (zc_X4_isQuiet_0, [], 4, yX4_isQuiet, cX4_isQuiet, (Option.some Jvm.ClassFile.FieldType.boolean), [], false)
def zy_X4_way : zY := (zc_X4_way_0, [], 4, yX4_way, cX4_way, (Option.some Jvm.ClassFile.FieldType.int), [], false)
def zy_X4_become : zY := (zc_X4_become_0, [], 3, yX4_become, cX4_become, (Option.none : Option Jvm.ClassFile.FieldType), [], false)
def zy_X5_init : zY := (zc_X5_init_0, [], 1, yX5_init, cX5_init, (Option.none : Option Jvm.ClassFile.FieldType), [], false)
def zy_X5_begin : zY := (zc_X5_begin_0, [], 1, yX5_begin, cX5_begin, (Option.none : Option Jvm.ClassFile.FieldType), [], false)
def zy_X5_leave : zY := (zc_X5_leave_0, [], 2, yX5_leave, cX5_leave, (Option.none : Option Jvm.ClassFile.FieldType), [], false)
def zy_X5_gain : zY := (zc_X5_gain_0, [], 2, yX5_gain, cX5_gain, (Option.none : Option Jvm.ClassFile.FieldType), [], false)
def zy_X5_become : zY := (zc_X5_become_0, [], 2, yX5_become, cX5_become, (Option.none : Option Jvm.ClassFile.FieldType), [], false)
def zy_X6_init : zY := (zc_X6_init_0, [], 2, yX6_init, cX6_init, (Option.none : Option Jvm.ClassFile.FieldType), [], false)
def zy_X6_keep : zY := (zc_X6_keep_0, [], 2, yX6_keep, cX6_keep, (Option.some Jvm.ClassFile.FieldType.boolean), [], false)
def zy_X6_back : zY := (zc_X6_back_0, [], 2, yX6_back, cX6_back, (Option.some Jvm.ClassFile.FieldType.boolean), [], false)
def zy_X6_denied : zY := (zc_X6_denied_0, [], 2, yX6_denied, cX6_denied, (Option.some Jvm.ClassFile.FieldType.boolean), [], false)
def zy_X6_granted : zY := (zc_X6_granted_0, [], 1, yX6_granted, cX6_granted, (Option.some Jvm.ClassFile.FieldType.boolean), [], false)
def zy_X6_leg : zY := (zc_X6_leg_0, [], 3, yX6_leg, cX6_leg, (Option.some Jvm.ClassFile.FieldType.int), [], false)
def zy_X6_refused : zY := (zc_X6_refused_0, [], 2, yX6_refused, cX6_refused, (Option.some Jvm.ClassFile.FieldType.int), [], false)
def zy_X6_in : zY := (zc_X6_in_0, [], 3, yX6_in, cX6_in, (Option.some Jvm.ClassFile.FieldType.boolean), [], false)
def zy_X6_done : zY := (zc_X6_done_0, [], 2, yX6_done, cX6_done, (Option.some Jvm.ClassFile.FieldType.int), [], false)
def zy_X6_cold : zY := (zc_X6_cold_0, [], 5, yX6_cold, cX6_cold, (Option.some Jvm.ClassFile.FieldType.boolean), [], false)
def zy_X6_feed : zY := (zc_X6_feed_0, [], 8, yX6_feed, cX6_feed, (Option.some Jvm.ClassFile.FieldType.int), [], false)
def zy_X6_plan : zY := (zc_X6_plan_0, [28, 32, 35, 9], 3, yX6_plan, cX6_plan, (Option.some Jvm.ClassFile.FieldType.int), [(28, 32, 35, 58)], false)
def zy_X6_start : zY := (zc_X6_start_0, [], 2, yX6_start, cX6_start, (Option.none : Option Jvm.ClassFile.FieldType), [], false)
def zy_X6_next : zY := (zc_X6_next_0, [], 3, yX6_next, cX6_next, (Option.none : Option Jvm.ClassFile.FieldType), [], false)
def zy_X6_byteAt : zY := (zc_X6_byteAt_0, [], 2, yX6_byteAt, cX6_byteAt, (Option.some Jvm.ClassFile.FieldType.int), [], false)
def zy_X6_isLetter : zY := (zc_X6_isLetter_0, [], 1, yX6_isLetter, cX6_isLetter, (Option.some Jvm.ClassFile.FieldType.boolean), [], false)
def zy_X6_isDigit : zY := (zc_X6_isDigit_0, [], 1, yX6_isDigit, cX6_isDigit, (Option.some Jvm.ClassFile.FieldType.boolean), [], false)
def zy_X6_readPlan : zY := (zc_X6_readPlan_0, [], 6, yX6_readPlan, cX6_readPlan, (Option.none : Option Jvm.ClassFile.FieldType), [], false)
def zy_X6_isWord : zY := (zc_X6_isWord_0, [], 2, yX6_isWord, cX6_isWord, (Option.some Jvm.ClassFile.FieldType.boolean), [], false)
def zy_X6_wordOf : zY := (zc_X6_wordOf_0, [], 4, yX6_wordOf, cX6_wordOf, (Option.some Jvm.ClassFile.FieldType.long), [], true)
def zy_X6_actHere : zY := (zc_X6_actHere_0, [], 1, yX6_actHere, cX6_actHere, (Option.some Jvm.ClassFile.FieldType.int), [], false)
def zy_X6_stop : zY := (zc_X6_stop_0, [], 2, yX6_stop, cX6_stop, (Option.some (Jvm.ClassFile.FieldType.object "SledHouseModel$Stop")), [], false)
def zy_X6_readTest : zY := (zc_X6_readTest_0, [], 4, yX6_readTest, cX6_readTest, (Option.none : Option Jvm.ClassFile.FieldType), [], false)
def zy_X6_nameHere : zY := (zc_X6_nameHere_0, [], 2, yX6_nameHere, cX6_nameHere, (Option.some Jvm.ClassFile.FieldType.int), [], false)
def zy_X6_is : zY := (zc_X6_is_0, [], 2, yX6_is, cX6_is, (Option.some Jvm.ClassFile.FieldType.boolean), [], false)
def zy_X6_needNumber : zY := (zc_X6_needNumber_0, [], 2, yX6_needNumber, cX6_needNumber, (Option.some Jvm.ClassFile.FieldType.int), [], false)
def zy_X6_wrong : zY := (zc_X6_wrong_0, [], 2, yX6_wrong, cX6_wrong, (Option.some Jvm.ClassFile.FieldType.int), [], false)
def zy_X6_laws : zY := (zc_X6_laws_0, [28, 33, 36, 9], 4, yX6_laws, cX6_laws, (Option.some Jvm.ClassFile.FieldType.int), [(28, 33, 36, 58)], false)
def zy_X6_readLaws : zY := (zc_X6_readLaws_0, [], 7, yX6_readLaws, cX6_readLaws, (Option.some Jvm.ClassFile.FieldType.int), [], false)
def zy_X6_needWord : zY := (zc_X6_needWord_0, [], 2, yX6_needWord, cX6_needWord, (Option.none : Option Jvm.ClassFile.FieldType), [], false)
def zy_X6_fault : zY := (zc_X6_fault_0, [], 1, yX6_fault, cX6_fault, (Option.some Jvm.ClassFile.FieldType.int), [], false)
def zy_X6_where : zY := (zc_X6_where_0, [], 1, yX6_where, cX6_where, (Option.some Jvm.ClassFile.FieldType.int), [], false)
def zy_X6_law : zY := (zc_X6_law_0, [], 3, yX6_law, cX6_law, (Option.some Jvm.ClassFile.FieldType.int), [], false)
def zy_X6_planned : zY := (zc_X6_planned_0, [], 5, yX6_planned, cX6_planned, (Option.some Jvm.ClassFile.FieldType.int), [], false)
def zy_X6_team : zY := (zc_X6_team_0, [], 6, yX6_team, cX6_team, (Option.some Jvm.ClassFile.FieldType.int), [], false)
def zy_X6_isPlan : zY := (zc_X6_isPlan_0, [], 2, yX6_isPlan, cX6_isPlan, (Option.some Jvm.ClassFile.FieldType.boolean), [], false)
def zy_X6_follow : zY := (zc_X6_follow_0, [], 4, yX6_follow, cX6_follow, (Option.some Jvm.ClassFile.FieldType.boolean), [], false)
def zy_X6_isTeam : zY := (zc_X6_isTeam_0, [], 2, yX6_isTeam, cX6_isTeam, (Option.some Jvm.ClassFile.FieldType.boolean), [], false)
def zy_X6_gap : zY := (zc_X6_gap_0, [], 5, yX6_gap, cX6_gap, (Option.some Jvm.ClassFile.FieldType.int), [], false)
def zy_X6_each : zY := (zc_X6_each_0, [], 2, yX6_each, cX6_each, (Option.some Jvm.ClassFile.FieldType.boolean), [], false)
def zy_X6_run : zY := (zc_X6_run_0, [], 5, yX6_run, cX6_run, (Option.some Jvm.ClassFile.FieldType.int), [], false)
def zy_X6_isOver : zY := (zc_X6_isOver_0, [], 3, yX6_isOver, cX6_isOver, (Option.some Jvm.ClassFile.FieldType.boolean), [], false)
def zy_X6_leads : zY := (zc_X6_leads_0, [], 8, yX6_leads, cX6_leads, (Option.none : Option Jvm.ClassFile.FieldType), [], false)
def zy_X6_holds : zY := (zc_X6_holds_0, [], 7, yX6_holds, cX6_holds, (Option.some Jvm.ClassFile.FieldType.boolean), [], false)
def zy_X6_valueOf : zY := (zc_X6_valueOf_0, [], 4, yX6_valueOf, cX6_valueOf, (Option.some Jvm.ClassFile.FieldType.int), [], false)
def zy_X6_goes : zY := (zc_X6_goes_0, [], 8, yX6_goes, cX6_goes, (Option.none : Option Jvm.ClassFile.FieldType), [], false)
def zy_X6_way : zY := (zc_X6_way_0, [], 4, yX6_way, cX6_way, (Option.some Jvm.ClassFile.FieldType.int), [], false)
def zy_X6_about : zY := (zc_X6_about_0, [], 4, yX6_about, cX6_about, (Option.some Jvm.ClassFile.FieldType.int), [], false)
def zy_X6_dog : zY := (zc_X6_dog_0, [], 5, yX6_dog, cX6_dog, (Option.some Jvm.ClassFile.FieldType.int), [], false)
def zy_X6_time : zY := (zc_X6_time_0, [], 4, yX6_time, cX6_time, (Option.some Jvm.ClassFile.FieldType.int), [], false)
def zy_X6_did : zY := (zc_X6_did_0, [], 2, yX6_did, cX6_did, (Option.some Jvm.ClassFile.FieldType.int), [], false)
def zy_X6_result : zY := (zc_X6_result_0, [], 2, yX6_result, cX6_result, (Option.some Jvm.ClassFile.FieldType.int), [], false)
def zy_X6_resultOf : zY := (zc_X6_resultOf_0, [], 7, yX6_resultOf, cX6_resultOf, (Option.some Jvm.ClassFile.FieldType.int), [], false)
def zy_X6_lacksOf : zY := (zc_X6_lacksOf_0, [], 8, yX6_lacksOf, cX6_lacksOf, (Option.some Jvm.ClassFile.FieldType.int), [], false)
def zy_X6_less : zY := (zc_X6_less_0, [], 4, yX6_less, cX6_less, (Option.some Jvm.ClassFile.FieldType.int), [], false)
def zy_X6_lacks : zY := (zc_X6_lacks_0, [], 3, yX6_lacks, cX6_lacks, (Option.some Jvm.ClassFile.FieldType.int), [], false)
def zy_X6_place : zY := (zc_X6_place_0, [], 5, yX6_place, cX6_place, (Option.some Jvm.ClassFile.FieldType.int), [], false)
def zy_X6_isAhead : zY := (zc_X6_isAhead_0, [], 9, yX6_isAhead, cX6_isAhead, (Option.some Jvm.ClassFile.FieldType.boolean), [], false)
def zy_X6_came : zY := (zc_X6_came_0, [], 5, yX6_came, cX6_came, (Option.some Jvm.ClassFile.FieldType.int), [], false)
def zy_X6_spot : zY := (zc_X6_spot_0, [], 8, yX6_spot, cX6_spot, (Option.some Jvm.ClassFile.FieldType.int), [], false)
def zy_X6_trail : zY := (zc_X6_trail_0, [], 3, yX6_trail, cX6_trail, (Option.some Jvm.ClassFile.FieldType.int), [], false)
def zy_X6_signs : zY := (zc_X6_signs_0, [], 2, yX6_signs, cX6_signs, (Option.some Jvm.ClassFile.FieldType.int), [], false)
def zy_X6_replay : zY := (zc_X6_replay_0, [], 6, yX6_replay, cX6_replay, (Option.some Jvm.ClassFile.FieldType.int), [], false)
def zy_X6_count : zY := (zc_X6_count_0, [], 2, yX6_count, cX6_count, (Option.some Jvm.ClassFile.FieldType.int), [], false)
def zy_X6_trouble : zY := (zc_X6_trouble_0, [], 1, yX6_trouble, cX6_trouble, (Option.some Jvm.ClassFile.FieldType.int), [], false)
def zy_X7_init : zY := (zc_X7_init_0, [], 1, yX7_init, cX7_init, (Option.none : Option Jvm.ClassFile.FieldType), [], false)
def zy_X7_become : zY := (zc_X7_become_0, [], 3, yX7_become, cX7_become, (Option.none : Option Jvm.ClassFile.FieldType), [], false)
def zy_X7_begin : zY := (zc_X7_begin_0, [], 7, yX7_begin, cX7_begin, (Option.none : Option Jvm.ClassFile.FieldType), [], false)
def zy_X7_weakest : zY := (zc_X7_weakest_0, [], 3, yX7_weakest, cX7_weakest, (Option.some Jvm.ClassFile.FieldType.int), [], false)
def zy_X7_mean : zY := (zc_X7_mean_0, [], 3, yX7_mean, cX7_mean, (Option.some Jvm.ClassFile.FieldType.int), [], false)
def zy_X7_of : zY := (zc_X7_of_0, [], 4, yX7_of, cX7_of, (Option.some Jvm.ClassFile.FieldType.int), [], false)
def zy_X7_gain : zY := (zc_X7_gain_0, [], 3, yX7_gain, cX7_gain, (Option.none : Option Jvm.ClassFile.FieldType), [], false)
def zy_X7_inGap : zY := (zc_X7_inGap_0, [], 4, yX7_inGap, cX7_inGap, (Option.some Jvm.ClassFile.FieldType.boolean), [], false)
def zy_X8_init : zY := (zc_X8_init_0, [], 1, yX8_init, cX8_init, (Option.none : Option Jvm.ClassFile.FieldType), [], false)
def zy_X9_init : zY := (zc_X9_init_0, [], 1, yX9_init, cX9_init, (Option.none : Option Jvm.ClassFile.FieldType), [], false)
def zy_X9_read : zY := (zc_X9_read_0, [], 4, yX9_read, cX9_read, (Option.none : Option Jvm.ClassFile.FieldType), [], false)
def zy_X9_rule : zY := (zc_X9_rule_0, [], 5, yX9_rule, cX9_rule, (Option.some Jvm.ClassFile.FieldType.int), [], false)
def zy_X9_tests : zY := (zc_X9_tests_0, [], 3, yX9_tests, cX9_tests, (Option.some Jvm.ClassFile.FieldType.int), [], false)
def zy_X10_init : zY := (zc_X10_init_0, [], 1, yX10_init, cX10_init, (Option.none : Option Jvm.ClassFile.FieldType), [], false)
def zy_X10_read : zY := (zc_X10_read_0, [], 2, yX10_read, cX10_read, (Option.none : Option Jvm.ClassFile.FieldType), [], false)
def zy_X10_test : zY := (zc_X10_test_0, [], 4, yX10_test, cX10_test, (Option.none : Option Jvm.ClassFile.FieldType), [], false)
def zy_X10_isKept : zY := (zc_X10_isKept_0, [], 1, yX10_isKept, cX10_isKept, (Option.some Jvm.ClassFile.FieldType.boolean), [], false)
def zy_X10_holds : zY := (zc_X10_holds_0, [], 6, yX10_holds, cX10_holds, (Option.some Jvm.ClassFile.FieldType.boolean), [], false)
def zy_X11_init : zY := (zc_X11_init_0, [], 4, yX11_init, cX11_init, (Option.none : Option Jvm.ClassFile.FieldType), [], false)
def zy_X11_holds : zY := (zc_X11_holds_0, [], 5, yX11_holds, cX11_holds, (Option.some Jvm.ClassFile.FieldType.boolean), [], false)
def zy_X12_init : zY := (zc_X12_init_0, [], 2, yX12_init, cX12_init, (Option.none : Option Jvm.ClassFile.FieldType), [], false)
def zy_X12_lacks : zY := (zc_X12_lacks_0, [], 3, yX12_lacks, cX12_lacks, (Option.some Jvm.ClassFile.FieldType.int), [], false)
def zy_X12_isRest : zY := (zc_X12_isRest_0, [], 1, yX12_isRest, cX12_isRest, (Option.some Jvm.ClassFile.FieldType.boolean), [], false)
def zy_X12_number : zY := (zc_X12_number_0, [], 2, yX12_number, cX12_number, (Option.some Jvm.ClassFile.FieldType.int), [], false)
def zy_X13_init : zY := (zc_X13_init_0, [], 5, yX13_init, cX13_init, (Option.none : Option Jvm.ClassFile.FieldType), [], false)
def zy_X13_init_2 : zY := (zc_X13_init_2_0, [], 4, yX13_init_2, cX13_init_2, (Option.none : Option Jvm.ClassFile.FieldType), [], false)
def zy_X13_lacks : zY := (zc_X13_lacks_0, [], 5, yX13_lacks, cX13_lacks, (Option.some Jvm.ClassFile.FieldType.int), [], false)
def zy_X13_isRest : zY := (zc_X13_isRest_0, [], 1, yX13_isRest, cX13_isRest, (Option.some Jvm.ClassFile.FieldType.boolean), [], false)
def zy_X13_number : zY := (zc_X13_number_0, [], 2, yX13_number, cX13_number, (Option.some Jvm.ClassFile.FieldType.int), [], false)
def zy_X14_init : zY := (zc_X14_init_0, [], 3, yX14_init, cX14_init, (Option.none : Option Jvm.ClassFile.FieldType), [], false)
def zy_X14_number : zY := (zc_X14_number_0, [], 2, yX14_number, cX14_number, (Option.some Jvm.ClassFile.FieldType.int), [], false)
def zy_X15_init : zY := (zc_X15_init_0, [], 2, yX15_init, cX15_init, (Option.none : Option Jvm.ClassFile.FieldType), [], false)
def zy_X15_lacks : zY := (zc_X15_lacks_0, [], 3, yX15_lacks, cX15_lacks, (Option.some Jvm.ClassFile.FieldType.int), [], false)
def zy_X15_number : zY := (zc_X15_number_0, [], 2, yX15_number, cX15_number, (Option.some Jvm.ClassFile.FieldType.int), [], false)
def zy_X16_init : zY := (zc_X16_init_0, [], 3, yX16_init, cX16_init, (Option.none : Option Jvm.ClassFile.FieldType), [], false)
def zy_X16_number : zY := (zc_X16_number_0, [], 2, yX16_number, cX16_number, (Option.some Jvm.ClassFile.FieldType.int), [], false)
def zml : List zY := [zy_J0_init, zy_J0_init, zy_J0_init_2, zy_J1_init, zy_J2_init, zy_J3_init, zy_J3_rangeCheck, zy_J3_checkBoundsOffCount, zy_J3_init_2, zy_J3_equals, zy_J3_hashCode, zy_J3_isLatin1, zy_J3_length, zy_J3_coder, zy_J3_charAt, zy_J3_checkIndex, zy_J4_checkFromIndexSize, zy_J4_checkIndex, zy_J5_compress, zy_J5_compress_2, zy_J5_coderFromArrayLen, zy_J6_equals, zy_J6_hashCode, zy_J6_charAt, zy_J7_vectorizedHashCode, zy_J7_signedHashCode, zy_J8_max, zy_J8_min, zy_X0_init, zy_X0_leg, zy_X0_begins, zy_X0_must, zy_X0_in, zy_X0_refuses, zy_X0_cold, zy_X0_feed, zy_X0_word, zy_X0_plan, zy_X0_takes, zy_X0_actOf, zy_X0_nameOf, zy_X0_laws, zy_X0_lawOf, zy_X0_fault, zy_X0_where, zy_X0_team, zy_X0_follow, zy_X0_isTeam, zy_X0_gap, zy_X0_each, zy_X0_run, zy_X0_about, zy_X0_dog, zy_X0_time, zy_X0_did, zy_X0_result, zy_X0_home, zy_X0_resultOf, zy_X0_lacks, zy_X0_place, zy_X0_isAhead, zy_X0_came, zy_X0_spot, zy_X0_signs, zy_X0_replay, zy_X0_keep, zy_X0_back, zy_X0_law, zy_X0_planned, zy_X0_count, zy_X0_trouble, zy_X1_init, zy_X1_begin, zy_X1_next, zy_X1_see, zy_X1_isSmall, zy_X1_isDigit, zy_X1_isWord, zy_X1_fail, zy_X1_takes, zy_X1_takes_2, zy_X1_number, zy_X1_mustEnd, zy_X1_must, zy_X2_init, zy_X2_by, zy_X2_at, zy_X3_init, zy_X3_goesOn, zy_X3_trail, zy_X3_become, zy_X4_init, zy_X4_enter, zy_X4_begin, zy_X4_step, zy_X4_told, zy_X4_weakest, zy_X4_mean, zy_X4_pulling, zy_X4_inState, zy_X4_load, zy_X4_go, zy_X4_comes, zy_X4_rests, zy_X4_gain, zy_X4_sign, zy_X4_isQuiet, zy_X4_way, zy_X4_become, zy_X5_init, zy_X5_begin, zy_X5_leave, zy_X5_gain, zy_X5_become, zy_X6_init, zy_X6_keep, zy_X6_back, zy_X6_denied, zy_X6_granted, zy_X6_leg, zy_X6_refused, zy_X6_in, zy_X6_done, zy_X6_cold, zy_X6_feed, zy_X6_plan, zy_X6_start, zy_X6_next, zy_X6_byteAt, zy_X6_isLetter, zy_X6_isDigit, zy_X6_readPlan, zy_X6_isWord, zy_X6_wordOf, zy_X6_actHere, zy_X6_stop, zy_X6_readTest, zy_X6_nameHere, zy_X6_is, zy_X6_needNumber, zy_X6_wrong, zy_X6_laws, zy_X6_readLaws, zy_X6_needWord, zy_X6_fault, zy_X6_where, zy_X6_law, zy_X6_planned, zy_X6_team, zy_X6_isPlan, zy_X6_follow, zy_X6_isTeam, zy_X6_gap, zy_X6_each, zy_X6_run, zy_X6_isOver, zy_X6_leads, zy_X6_holds, zy_X6_valueOf, zy_X6_goes, zy_X6_way, zy_X6_about, zy_X6_dog, zy_X6_time, zy_X6_did, zy_X6_result, zy_X6_resultOf, zy_X6_lacksOf, zy_X6_less, zy_X6_lacks, zy_X6_place, zy_X6_isAhead, zy_X6_came, zy_X6_spot, zy_X6_trail, zy_X6_signs, zy_X6_replay, zy_X6_count, zy_X6_trouble, zy_X7_init, zy_X7_become, zy_X7_begin, zy_X7_weakest, zy_X7_mean, zy_X7_of, zy_X7_gain, zy_X7_inGap, zy_X8_init, zy_X9_init, zy_X9_read, zy_X9_rule, zy_X9_tests, zy_X10_init, zy_X10_read, zy_X10_test, zy_X10_isKept, zy_X10_holds, zy_X11_init, zy_X11_holds, zy_X12_init, zy_X12_lacks, zy_X12_isRest, zy_X12_number, zy_X13_init, zy_X13_init_2, zy_X13_lacks, zy_X13_isRest, zy_X13_number, zy_X14_init, zy_X14_number, zy_X15_init, zy_X15_lacks, zy_X15_number, zy_X16_init, zy_X16_number]
theorem zm_J0_init : zml[1]? = some zy_J0_init := rfl
theorem zm_J0_init_2 : zml[2]? = some zy_J0_init_2 := rfl
theorem zm_J1_init : zml[3]? = some zy_J1_init := rfl
theorem zm_J2_init : zml[4]? = some zy_J2_init := rfl
theorem zm_J3_init : zml[5]? = some zy_J3_init := rfl
theorem zm_J3_rangeCheck : zml[6]? = some zy_J3_rangeCheck := rfl
theorem zm_J3_checkBoundsOffCount : zml[7]? = some zy_J3_checkBoundsOffCount := rfl
theorem zm_J3_init_2 : zml[8]? = some zy_J3_init_2 := rfl
theorem zm_J3_equals : zml[9]? = some zy_J3_equals := rfl
theorem zm_J3_hashCode : zml[10]? = some zy_J3_hashCode := rfl
theorem zm_J3_isLatin1 : zml[11]? = some zy_J3_isLatin1 := rfl
theorem zm_J3_length : zml[12]? = some zy_J3_length := rfl
theorem zm_J3_coder : zml[13]? = some zy_J3_coder := rfl
theorem zm_J3_charAt : zml[14]? = some zy_J3_charAt := rfl
theorem zm_J3_checkIndex : zml[15]? = some zy_J3_checkIndex := rfl
theorem zm_J4_checkFromIndexSize : zml[16]? = some zy_J4_checkFromIndexSize := rfl
theorem zm_J4_checkIndex : zml[17]? = some zy_J4_checkIndex := rfl
theorem zm_J5_compress : zml[18]? = some zy_J5_compress := rfl
theorem zm_J5_compress_2 : zml[19]? = some zy_J5_compress_2 := rfl
theorem zm_J5_coderFromArrayLen : zml[20]? = some zy_J5_coderFromArrayLen := rfl
theorem zm_J6_equals : zml[21]? = some zy_J6_equals := rfl
theorem zm_J6_hashCode : zml[22]? = some zy_J6_hashCode := rfl
theorem zm_J6_charAt : zml[23]? = some zy_J6_charAt := rfl
theorem zm_J7_vectorizedHashCode : zml[24]? = some zy_J7_vectorizedHashCode := rfl
theorem zm_J7_signedHashCode : zml[25]? = some zy_J7_signedHashCode := rfl
theorem zm_J8_max : zml[26]? = some zy_J8_max := rfl
theorem zm_J8_min : zml[27]? = some zy_J8_min := rfl
theorem zm_X0_init : zml[28]? = some zy_X0_init := rfl
theorem zm_X0_leg : zml[29]? = some zy_X0_leg := rfl
theorem zm_X0_begins : zml[30]? = some zy_X0_begins := rfl
theorem zm_X0_must : zml[31]? = some zy_X0_must := rfl
theorem zm_X0_in : zml[32]? = some zy_X0_in := rfl
theorem zm_X0_refuses : zml[33]? = some zy_X0_refuses := rfl
theorem zm_X0_cold : zml[34]? = some zy_X0_cold := rfl
theorem zm_X0_feed : zml[35]? = some zy_X0_feed := rfl
theorem zm_X0_word : zml[36]? = some zy_X0_word := rfl
theorem zm_X0_plan : zml[37]? = some zy_X0_plan := rfl
theorem zm_X0_takes : zml[38]? = some zy_X0_takes := rfl
theorem zm_X0_actOf : zml[39]? = some zy_X0_actOf := rfl
theorem zm_X0_nameOf : zml[40]? = some zy_X0_nameOf := rfl
theorem zm_X0_laws : zml[41]? = some zy_X0_laws := rfl
theorem zm_X0_lawOf : zml[42]? = some zy_X0_lawOf := rfl
theorem zm_X0_fault : zml[43]? = some zy_X0_fault := rfl
theorem zm_X0_where : zml[44]? = some zy_X0_where := rfl
theorem zm_X0_team : zml[45]? = some zy_X0_team := rfl
theorem zm_X0_follow : zml[46]? = some zy_X0_follow := rfl
theorem zm_X0_isTeam : zml[47]? = some zy_X0_isTeam := rfl
theorem zm_X0_gap : zml[48]? = some zy_X0_gap := rfl
theorem zm_X0_each : zml[49]? = some zy_X0_each := rfl
theorem zm_X0_run : zml[50]? = some zy_X0_run := rfl
theorem zm_X0_about : zml[51]? = some zy_X0_about := rfl
theorem zm_X0_dog : zml[52]? = some zy_X0_dog := rfl
theorem zm_X0_time : zml[53]? = some zy_X0_time := rfl
theorem zm_X0_did : zml[54]? = some zy_X0_did := rfl
theorem zm_X0_result : zml[55]? = some zy_X0_result := rfl
theorem zm_X0_home : zml[56]? = some zy_X0_home := rfl
theorem zm_X0_resultOf : zml[57]? = some zy_X0_resultOf := rfl
theorem zm_X0_lacks : zml[58]? = some zy_X0_lacks := rfl
theorem zm_X0_place : zml[59]? = some zy_X0_place := rfl
theorem zm_X0_isAhead : zml[60]? = some zy_X0_isAhead := rfl
theorem zm_X0_came : zml[61]? = some zy_X0_came := rfl
theorem zm_X0_spot : zml[62]? = some zy_X0_spot := rfl
theorem zm_X0_signs : zml[63]? = some zy_X0_signs := rfl
theorem zm_X0_replay : zml[64]? = some zy_X0_replay := rfl
theorem zm_X0_keep : zml[65]? = some zy_X0_keep := rfl
theorem zm_X0_back : zml[66]? = some zy_X0_back := rfl
theorem zm_X0_law : zml[67]? = some zy_X0_law := rfl
theorem zm_X0_planned : zml[68]? = some zy_X0_planned := rfl
theorem zm_X0_count : zml[69]? = some zy_X0_count := rfl
theorem zm_X0_trouble : zml[70]? = some zy_X0_trouble := rfl
theorem zm_X1_init : zml[71]? = some zy_X1_init := rfl
theorem zm_X1_begin : zml[72]? = some zy_X1_begin := rfl
theorem zm_X1_next : zml[73]? = some zy_X1_next := rfl
theorem zm_X1_see : zml[74]? = some zy_X1_see := rfl
theorem zm_X1_isSmall : zml[75]? = some zy_X1_isSmall := rfl
theorem zm_X1_isDigit : zml[76]? = some zy_X1_isDigit := rfl
theorem zm_X1_isWord : zml[77]? = some zy_X1_isWord := rfl
theorem zm_X1_fail : zml[78]? = some zy_X1_fail := rfl
theorem zm_X1_takes : zml[79]? = some zy_X1_takes := rfl
theorem zm_X1_takes_2 : zml[80]? = some zy_X1_takes_2 := rfl
theorem zm_X1_number : zml[81]? = some zy_X1_number := rfl
theorem zm_X1_mustEnd : zml[82]? = some zy_X1_mustEnd := rfl
theorem zm_X1_must : zml[83]? = some zy_X1_must := rfl
theorem zm_X2_init : zml[84]? = some zy_X2_init := rfl
theorem zm_X2_by : zml[85]? = some zy_X2_by := rfl
theorem zm_X2_at : zml[86]? = some zy_X2_at := rfl
theorem zm_X3_init : zml[87]? = some zy_X3_init := rfl
theorem zm_X3_goesOn : zml[88]? = some zy_X3_goesOn := rfl
theorem zm_X3_trail : zml[89]? = some zy_X3_trail := rfl
theorem zm_X3_become : zml[90]? = some zy_X3_become := rfl
theorem zm_X4_init : zml[91]? = some zy_X4_init := rfl
theorem zm_X4_enter : zml[92]? = some zy_X4_enter := rfl
theorem zm_X4_begin : zml[93]? = some zy_X4_begin := rfl
theorem zm_X4_step : zml[94]? = some zy_X4_step := rfl
theorem zm_X4_told : zml[95]? = some zy_X4_told := rfl
theorem zm_X4_weakest : zml[96]? = some zy_X4_weakest := rfl
theorem zm_X4_mean : zml[97]? = some zy_X4_mean := rfl
theorem zm_X4_pulling : zml[98]? = some zy_X4_pulling := rfl
theorem zm_X4_inState : zml[99]? = some zy_X4_inState := rfl
theorem zm_X4_load : zml[100]? = some zy_X4_load := rfl
theorem zm_X4_go : zml[101]? = some zy_X4_go := rfl
theorem zm_X4_comes : zml[102]? = some zy_X4_comes := rfl
theorem zm_X4_rests : zml[103]? = some zy_X4_rests := rfl
theorem zm_X4_gain : zml[104]? = some zy_X4_gain := rfl
theorem zm_X4_sign : zml[105]? = some zy_X4_sign := rfl
theorem zm_X4_isQuiet : zml[106]? = some zy_X4_isQuiet := rfl
theorem zm_X4_way : zml[107]? = some zy_X4_way := rfl
theorem zm_X4_become : zml[108]? = some zy_X4_become := rfl
theorem zm_X5_init : zml[109]? = some zy_X5_init := rfl
theorem zm_X5_begin : zml[110]? = some zy_X5_begin := rfl
theorem zm_X5_leave : zml[111]? = some zy_X5_leave := rfl
theorem zm_X5_gain : zml[112]? = some zy_X5_gain := rfl
theorem zm_X5_become : zml[113]? = some zy_X5_become := rfl
theorem zm_X6_init : zml[114]? = some zy_X6_init := rfl
theorem zm_X6_keep : zml[115]? = some zy_X6_keep := rfl
theorem zm_X6_back : zml[116]? = some zy_X6_back := rfl
theorem zm_X6_denied : zml[117]? = some zy_X6_denied := rfl
theorem zm_X6_granted : zml[118]? = some zy_X6_granted := rfl
theorem zm_X6_leg : zml[119]? = some zy_X6_leg := rfl
theorem zm_X6_refused : zml[120]? = some zy_X6_refused := rfl
theorem zm_X6_in : zml[121]? = some zy_X6_in := rfl
theorem zm_X6_done : zml[122]? = some zy_X6_done := rfl
theorem zm_X6_cold : zml[123]? = some zy_X6_cold := rfl
theorem zm_X6_feed : zml[124]? = some zy_X6_feed := rfl
theorem zm_X6_plan : zml[125]? = some zy_X6_plan := rfl
theorem zm_X6_start : zml[126]? = some zy_X6_start := rfl
theorem zm_X6_next : zml[127]? = some zy_X6_next := rfl
theorem zm_X6_byteAt : zml[128]? = some zy_X6_byteAt := rfl
theorem zm_X6_isLetter : zml[129]? = some zy_X6_isLetter := rfl
theorem zm_X6_isDigit : zml[130]? = some zy_X6_isDigit := rfl
theorem zm_X6_readPlan : zml[131]? = some zy_X6_readPlan := rfl
theorem zm_X6_isWord : zml[132]? = some zy_X6_isWord := rfl
theorem zm_X6_wordOf : zml[133]? = some zy_X6_wordOf := rfl
theorem zm_X6_actHere : zml[134]? = some zy_X6_actHere := rfl
theorem zm_X6_stop : zml[135]? = some zy_X6_stop := rfl
theorem zm_X6_readTest : zml[136]? = some zy_X6_readTest := rfl
theorem zm_X6_nameHere : zml[137]? = some zy_X6_nameHere := rfl
theorem zm_X6_is : zml[138]? = some zy_X6_is := rfl
theorem zm_X6_needNumber : zml[139]? = some zy_X6_needNumber := rfl
theorem zm_X6_wrong : zml[140]? = some zy_X6_wrong := rfl
theorem zm_X6_laws : zml[141]? = some zy_X6_laws := rfl
theorem zm_X6_readLaws : zml[142]? = some zy_X6_readLaws := rfl
theorem zm_X6_needWord : zml[143]? = some zy_X6_needWord := rfl
theorem zm_X6_fault : zml[144]? = some zy_X6_fault := rfl
theorem zm_X6_where : zml[145]? = some zy_X6_where := rfl
theorem zm_X6_law : zml[146]? = some zy_X6_law := rfl
theorem zm_X6_planned : zml[147]? = some zy_X6_planned := rfl
theorem zm_X6_team : zml[148]? = some zy_X6_team := rfl
theorem zm_X6_isPlan : zml[149]? = some zy_X6_isPlan := rfl
theorem zm_X6_follow : zml[150]? = some zy_X6_follow := rfl
theorem zm_X6_isTeam : zml[151]? = some zy_X6_isTeam := rfl
theorem zm_X6_gap : zml[152]? = some zy_X6_gap := rfl
theorem zm_X6_each : zml[153]? = some zy_X6_each := rfl
theorem zm_X6_run : zml[154]? = some zy_X6_run := rfl
theorem zm_X6_isOver : zml[155]? = some zy_X6_isOver := rfl
theorem zm_X6_leads : zml[156]? = some zy_X6_leads := rfl
theorem zm_X6_holds : zml[157]? = some zy_X6_holds := rfl
theorem zm_X6_valueOf : zml[158]? = some zy_X6_valueOf := rfl
theorem zm_X6_goes : zml[159]? = some zy_X6_goes := rfl
theorem zm_X6_way : zml[160]? = some zy_X6_way := rfl
theorem zm_X6_about : zml[161]? = some zy_X6_about := rfl
theorem zm_X6_dog : zml[162]? = some zy_X6_dog := rfl
theorem zm_X6_time : zml[163]? = some zy_X6_time := rfl
theorem zm_X6_did : zml[164]? = some zy_X6_did := rfl
theorem zm_X6_result : zml[165]? = some zy_X6_result := rfl
theorem zm_X6_resultOf : zml[166]? = some zy_X6_resultOf := rfl
theorem zm_X6_lacksOf : zml[167]? = some zy_X6_lacksOf := rfl
theorem zm_X6_less : zml[168]? = some zy_X6_less := rfl
theorem zm_X6_lacks : zml[169]? = some zy_X6_lacks := rfl
theorem zm_X6_place : zml[170]? = some zy_X6_place := rfl
theorem zm_X6_isAhead : zml[171]? = some zy_X6_isAhead := rfl
theorem zm_X6_came : zml[172]? = some zy_X6_came := rfl
theorem zm_X6_spot : zml[173]? = some zy_X6_spot := rfl
theorem zm_X6_trail : zml[174]? = some zy_X6_trail := rfl
theorem zm_X6_signs : zml[175]? = some zy_X6_signs := rfl
theorem zm_X6_replay : zml[176]? = some zy_X6_replay := rfl
theorem zm_X6_count : zml[177]? = some zy_X6_count := rfl
theorem zm_X6_trouble : zml[178]? = some zy_X6_trouble := rfl
theorem zm_X7_init : zml[179]? = some zy_X7_init := rfl
theorem zm_X7_become : zml[180]? = some zy_X7_become := rfl
theorem zm_X7_begin : zml[181]? = some zy_X7_begin := rfl
theorem zm_X7_weakest : zml[182]? = some zy_X7_weakest := rfl
theorem zm_X7_mean : zml[183]? = some zy_X7_mean := rfl
theorem zm_X7_of : zml[184]? = some zy_X7_of := rfl
theorem zm_X7_gain : zml[185]? = some zy_X7_gain := rfl
theorem zm_X7_inGap : zml[186]? = some zy_X7_inGap := rfl
theorem zm_X8_init : zml[187]? = some zy_X8_init := rfl
theorem zm_X9_init : zml[188]? = some zy_X9_init := rfl
theorem zm_X9_read : zml[189]? = some zy_X9_read := rfl
theorem zm_X9_rule : zml[190]? = some zy_X9_rule := rfl
theorem zm_X9_tests : zml[191]? = some zy_X9_tests := rfl
theorem zm_X10_init : zml[192]? = some zy_X10_init := rfl
theorem zm_X10_read : zml[193]? = some zy_X10_read := rfl
theorem zm_X10_test : zml[194]? = some zy_X10_test := rfl
theorem zm_X10_isKept : zml[195]? = some zy_X10_isKept := rfl
theorem zm_X10_holds : zml[196]? = some zy_X10_holds := rfl
theorem zm_X11_init : zml[197]? = some zy_X11_init := rfl
theorem zm_X11_holds : zml[198]? = some zy_X11_holds := rfl
theorem zm_X12_init : zml[199]? = some zy_X12_init := rfl
theorem zm_X12_lacks : zml[200]? = some zy_X12_lacks := rfl
theorem zm_X12_isRest : zml[201]? = some zy_X12_isRest := rfl
theorem zm_X12_number : zml[202]? = some zy_X12_number := rfl
theorem zm_X13_init : zml[203]? = some zy_X13_init := rfl
theorem zm_X13_init_2 : zml[204]? = some zy_X13_init_2 := rfl
theorem zm_X13_lacks : zml[205]? = some zy_X13_lacks := rfl
theorem zm_X13_isRest : zml[206]? = some zy_X13_isRest := rfl
theorem zm_X13_number : zml[207]? = some zy_X13_number := rfl
theorem zm_X14_init : zml[208]? = some zy_X14_init := rfl
theorem zm_X14_number : zml[209]? = some zy_X14_number := rfl
theorem zm_X15_init : zml[210]? = some zy_X15_init := rfl
theorem zm_X15_lacks : zml[211]? = some zy_X15_lacks := rfl
theorem zm_X15_number : zml[212]? = some zy_X15_number := rfl
theorem zm_X16_init : zml[213]? = some zy_X16_init := rfl
theorem zm_X16_number : zml[214]? = some zy_X16_number := rfl
theorem zpm_J0_init_2 : zprm (yN zy_J0_init_2) 4 := ⟨⟨by decide, by decide⟩, by decide +kernel⟩
theorem zpm_J1_init : zprm (yN zy_J1_init) 4 := ⟨⟨by decide, by decide⟩, by decide +kernel⟩
theorem zpm_J3_init_2 : zprm (yN zy_J3_init_2) 4 := ⟨⟨by decide, by decide⟩, by decide +kernel⟩
theorem zpm_J3_rangeCheck : zprm (yN zy_J3_rangeCheck) 3 := ⟨⟨by decide, by decide⟩, by decide +kernel⟩
theorem zpm_J3_checkBoundsOffCount : zprm (yN zy_J3_checkBoundsOffCount) 3 := ⟨⟨by decide, by decide⟩, by decide +kernel⟩
theorem zpm_J4_checkFromIndexSize : zprm (yN zy_J4_checkFromIndexSize) 4 := ⟨⟨by decide, by decide⟩, by decide +kernel⟩
theorem zpm_J5_coderFromArrayLen : zprm (yN zy_J5_coderFromArrayLen) 2 := ⟨⟨by decide, by decide⟩, by decide +kernel⟩
theorem zpm_J5_compress : zprm (yN zy_J5_compress) 3 := ⟨⟨by decide, by decide⟩, by decide +kernel⟩
theorem zpm_J6_equals : zprm (yN zy_J6_equals) 2 := ⟨⟨by decide, by decide⟩, by decide +kernel⟩
theorem zpm_J6_hashCode : zprm (yN zy_J6_hashCode) 1 := ⟨⟨by decide, by decide⟩, by decide +kernel⟩
theorem zpm_J3_isLatin1 : zprm (yN zy_J3_isLatin1) 0 := ⟨⟨by decide, by decide⟩, by decide +kernel⟩
theorem zpm_J3_coder : zprm (yN zy_J3_coder) 0 := ⟨⟨by decide, by decide⟩, by decide +kernel⟩
theorem zpm_J6_charAt : zprm (yN zy_J6_charAt) 2 := ⟨⟨by decide, by decide⟩, by decide +kernel⟩
theorem zpm_J4_checkIndex : zprm (yN zy_J4_checkIndex) 3 := ⟨⟨by decide, by decide⟩, by decide +kernel⟩
theorem zpm_J5_compress_2 : zprm (yN zy_J5_compress_2) 5 := ⟨⟨by decide, by decide⟩, by decide +kernel⟩
theorem zpm_J7_vectorizedHashCode : zprm (yN zy_J7_vectorizedHashCode) 5 := ⟨⟨by decide, by decide⟩, by decide +kernel⟩
theorem zpm_J3_checkIndex : zprm (yN zy_J3_checkIndex) 2 := ⟨⟨by decide, by decide⟩, by decide +kernel⟩
theorem zpm_J7_signedHashCode : zprm (yN zy_J7_signedHashCode) 4 := ⟨⟨by decide, by decide⟩, by decide +kernel⟩
theorem zpm_X2_init : zprm (yN zy_X2_init) 0 := ⟨⟨by decide, by decide⟩, by decide +kernel⟩
theorem zpm_X4_init : zprm (yN zy_X4_init) 0 := ⟨⟨by decide, by decide⟩, by decide +kernel⟩
theorem zpm_X3_init : zprm (yN zy_X3_init) 0 := ⟨⟨by decide, by decide⟩, by decide +kernel⟩
theorem zpm_X1_init : zprm (yN zy_X1_init) 1 := ⟨⟨by decide, by decide⟩, by decide +kernel⟩
theorem zpm_X0_refuses : zprm (yN zy_X0_refuses) 1 := ⟨⟨by decide, by decide⟩, by decide +kernel⟩
theorem zpm_X0_must : zprm (yN zy_X0_must) 2 := ⟨⟨by decide, by decide⟩, by decide +kernel⟩
theorem zpm_X0_in : zprm (yN zy_X0_in) 3 := ⟨⟨by decide, by decide⟩, by decide +kernel⟩
theorem zpm_X0_begins : zprm (yN zy_X0_begins) 0 := ⟨⟨by decide, by decide⟩, by decide +kernel⟩
theorem zpm_X2_by : zprm (yN zy_X2_by) 1 := ⟨⟨by decide, by decide⟩, by decide +kernel⟩
theorem zpm_X0_word : zprm (yN zy_X0_word) 1 := ⟨⟨by decide, by decide⟩, by decide +kernel⟩
theorem zpm_X9_read : zprm (yN zy_X9_read) 1 := ⟨⟨by decide, by decide⟩, by decide +kernel⟩
theorem zpm_X9_init : zprm (yN zy_X9_init) 0 := ⟨⟨by decide, by decide⟩, by decide +kernel⟩
theorem zpm_X0_takes : zprm (yN zy_X0_takes) 1 := ⟨⟨by decide, by decide⟩, by decide +kernel⟩
theorem zpm_X1_begin : zprm (yN zy_X1_begin) 1 := ⟨⟨by decide, by decide⟩, by decide +kernel⟩
theorem zpm_J3_equals : zprm (yN zy_J3_equals) 1 := ⟨⟨by decide, by decide⟩, by decide +kernel⟩
theorem zpm_J3_hashCode : zprm (yN zy_J3_hashCode) 0 := ⟨⟨by decide, by decide⟩, by decide +kernel⟩
theorem zpm_X1_mustEnd : zprm (yN zy_X1_mustEnd) 0 := ⟨⟨by decide, by decide⟩, by decide +kernel⟩
theorem zpm_X1_takes_2 : zprm (yN zy_X1_takes_2) 1 := ⟨⟨by decide, by decide⟩, by decide +kernel⟩
theorem zpm_X0_lawOf : zprm (yN zy_X0_lawOf) 1 := ⟨⟨by decide, by decide⟩, by decide +kernel⟩
theorem zpm_X1_fail : zprm (yN zy_X1_fail) 1 := ⟨⟨by decide, by decide⟩, by decide +kernel⟩
theorem zpm_X1_isWord : zprm (yN zy_X1_isWord) 1 := ⟨⟨by decide, by decide⟩, by decide +kernel⟩
theorem zpm_X16_init : zprm (yN zy_X16_init) 2 := ⟨⟨by decide, by decide⟩, by decide +kernel⟩
theorem zpm_X1_number : zprm (yN zy_X1_number) 0 := ⟨⟨by decide, by decide⟩, by decide +kernel⟩
theorem zpm_X1_must : zprm (yN zy_X1_must) 1 := ⟨⟨by decide, by decide⟩, by decide +kernel⟩
theorem zpm_X15_init : zprm (yN zy_X15_init) 1 := ⟨⟨by decide, by decide⟩, by decide +kernel⟩
theorem zpm_X1_takes : zprm (yN zy_X1_takes) 1 := ⟨⟨by decide, by decide⟩, by decide +kernel⟩
theorem zpm_X13_init_2 : zprm (yN zy_X13_init_2) 3 := ⟨⟨by decide, by decide⟩, by decide +kernel⟩
theorem zpm_X14_init : zprm (yN zy_X14_init) 2 := ⟨⟨by decide, by decide⟩, by decide +kernel⟩
theorem zpm_X4_enter : zprm (yN zy_X4_enter) 5 := ⟨⟨by decide, by decide⟩, by decide +kernel⟩
theorem zpm_X0_isTeam : zprm (yN zy_X0_isTeam) 1 := ⟨⟨by decide, by decide⟩, by decide +kernel⟩
theorem zpm_X4_sign : zprm (yN zy_X4_sign) 2 := ⟨⟨by decide, by decide⟩, by decide +kernel⟩
theorem zpm_X4_step : zprm (yN zy_X4_step) 3 := ⟨⟨by decide, by decide⟩, by decide +kernel⟩
theorem zpm_X3_goesOn : zprm (yN zy_X3_goesOn) 0 := ⟨⟨by decide, by decide⟩, by decide +kernel⟩
theorem zpm_X4_load : zprm (yN zy_X4_load) 0 := ⟨⟨by decide, by decide⟩, by decide +kernel⟩
theorem zpm_X4_inState : zprm (yN zy_X4_inState) 1 := ⟨⟨by decide, by decide⟩, by decide +kernel⟩
theorem zpm_X4_way : zprm (yN zy_X4_way) 1 := ⟨⟨by decide, by decide⟩, by decide +kernel⟩
theorem zpm_X0_resultOf : zprm (yN zy_X0_resultOf) 1 := ⟨⟨by decide, by decide⟩, by decide +kernel⟩
theorem zpm_X0_home : zprm (yN zy_X0_home) 1 := ⟨⟨by decide, by decide⟩, by decide +kernel⟩
theorem zpm_X0_isAhead : zprm (yN zy_X0_isAhead) 2 := ⟨⟨by decide, by decide⟩, by decide +kernel⟩
theorem zpm_J8_max : zprm (yN zy_J8_max) 2 := ⟨⟨by decide, by decide⟩, by decide +kernel⟩
theorem zpm_J8_min : zprm (yN zy_J8_min) 2 := ⟨⟨by decide, by decide⟩, by decide +kernel⟩
theorem zpm_X3_trail : zprm (yN zy_X3_trail) 0 := ⟨⟨by decide, by decide⟩, by decide +kernel⟩
theorem zpm_X4_pulling : zprm (yN zy_X4_pulling) 0 := ⟨⟨by decide, by decide⟩, by decide +kernel⟩
theorem zpm_X3_become : zprm (yN zy_X3_become) 1 := ⟨⟨by decide, by decide⟩, by decide +kernel⟩
theorem zpm_X9_tests : zprm (yN zy_X9_tests) 0 := ⟨⟨by decide, by decide⟩, by decide +kernel⟩
theorem zpm_X1_next : zprm (yN zy_X1_next) 0 := ⟨⟨by decide, by decide⟩, by decide +kernel⟩
theorem zpm_X1_see : zprm (yN zy_X1_see) 1 := ⟨⟨by decide, by decide⟩, by decide +kernel⟩
theorem zpm_X1_isDigit : zprm (yN zy_X1_isDigit) 1 := ⟨⟨by decide, by decide⟩, by decide +kernel⟩
theorem zpm_J3_init : zprm (yN zy_J3_init) 3 := ⟨⟨by decide, by decide⟩, by decide +kernel⟩
theorem zpm_X1_isSmall : zprm (yN zy_X1_isSmall) 1 := ⟨⟨by decide, by decide⟩, by decide +kernel⟩
theorem zpm_X2_at : zprm (yN zy_X2_at) 2 := ⟨⟨by decide, by decide⟩, by decide +kernel⟩
theorem zpm_J2_init : zprm (yN zy_J2_init) 4 := ⟨⟨by decide, by decide⟩, by decide +kernel⟩
theorem zpm_X4_become : zprm (yN zy_X4_become) 1 := ⟨⟨by decide, by decide⟩, by decide +kernel⟩
theorem zpm_X5_init : zprm (yN zy_X5_init) 0 := ⟨⟨by decide, by decide⟩, by decide +kernel⟩
theorem zpm_X4_begin : zprm (yN zy_X4_begin) 0 := ⟨⟨by decide, by decide⟩, by decide +kernel⟩
theorem zpm_X5_begin : zprm (yN zy_X5_begin) 0 := ⟨⟨by decide, by decide⟩, by decide +kernel⟩
theorem zpm_X4_rests : zprm (yN zy_X4_rests) 3 := ⟨⟨by decide, by decide⟩, by decide +kernel⟩
theorem zpm_X4_go : zprm (yN zy_X4_go) 2 := ⟨⟨by decide, by decide⟩, by decide +kernel⟩
theorem zpm_X9_rule : zprm (yN zy_X9_rule) 3 := ⟨⟨by decide, by decide⟩, by decide +kernel⟩
theorem zpm_X4_mean : zprm (yN zy_X4_mean) 0 := ⟨⟨by decide, by decide⟩, by decide +kernel⟩
theorem zpm_X4_weakest : zprm (yN zy_X4_weakest) 0 := ⟨⟨by decide, by decide⟩, by decide +kernel⟩
theorem zpm_X4_comes : zprm (yN zy_X4_comes) 2 := ⟨⟨by decide, by decide⟩, by decide +kernel⟩
theorem zpm_X5_leave : zprm (yN zy_X5_leave) 1 := ⟨⟨by decide, by decide⟩, by decide +kernel⟩
theorem zpm_X4_gain : zprm (yN zy_X4_gain) 1 := ⟨⟨by decide, by decide⟩, by decide +kernel⟩
theorem zpm_X5_gain : zprm (yN zy_X5_gain) 1 := ⟨⟨by decide, by decide⟩, by decide +kernel⟩
theorem zpm_X4_isQuiet : zprm (yN zy_X4_isQuiet) 1 := ⟨⟨by decide, by decide⟩, by decide +kernel⟩
theorem zpm_X5_become : zprm (yN zy_X5_become) 1 := ⟨⟨by decide, by decide⟩, by decide +kernel⟩
theorem zpm_X10_read : zprm (yN zy_X10_read) 1 := ⟨⟨by decide, by decide⟩, by decide +kernel⟩
theorem zpm_X10_init : zprm (yN zy_X10_init) 0 := ⟨⟨by decide, by decide⟩, by decide +kernel⟩
theorem zpm_X0_actOf : zprm (yN zy_X0_actOf) 1 := ⟨⟨by decide, by decide⟩, by decide +kernel⟩
theorem zpm_X10_holds : zprm (yN zy_X10_holds) 3 := ⟨⟨by decide, by decide⟩, by decide +kernel⟩
theorem zpm_X10_test : zprm (yN zy_X10_test) 1 := ⟨⟨by decide, by decide⟩, by decide +kernel⟩
theorem zpm_X11_init : zprm (yN zy_X11_init) 3 := ⟨⟨by decide, by decide⟩, by decide +kernel⟩
theorem zpm_X10_isKept : zprm (yN zy_X10_isKept) 1 := ⟨⟨by decide, by decide⟩, by decide +kernel⟩
theorem zpm_X0_nameOf : zprm (yN zy_X0_nameOf) 1 := ⟨⟨by decide, by decide⟩, by decide +kernel⟩
theorem zpm_X11_holds : zprm (yN zy_X11_holds) 3 := ⟨⟨by decide, by decide⟩, by decide +kernel⟩
theorem zpm_X4_told : zprm (yN zy_X4_told) 3 := ⟨⟨by decide, by decide⟩, by decide +kernel⟩
theorem zpm_X12_init : zprm (yN zy_X12_init) 1 := ⟨⟨by decide, by decide⟩, by decide +kernel⟩
theorem zpm_X13_init : zprm (yN zy_X13_init) 4 := ⟨⟨by decide, by decide⟩, by decide +kernel⟩
theorem zpm_X13_number : zprm (yN zy_X13_number) 1 := ⟨⟨by decide, by decide⟩, by decide +kernel⟩
theorem zpm_X12_number : zprm (yN zy_X12_number) 1 := ⟨⟨by decide, by decide⟩, by decide +kernel⟩
theorem zpm_X7_init : zprm (yN zy_X7_init) 0 := ⟨⟨by decide, by decide⟩, by decide +kernel⟩
theorem zpm_X8_init : zprm (yN zy_X8_init) 0 := ⟨⟨by decide, by decide⟩, by decide +kernel⟩
theorem zpm_X7_become : zprm (yN zy_X7_become) 1 := ⟨⟨by decide, by decide⟩, by decide +kernel⟩
theorem zpm_X6_granted : zprm (yN zy_X6_granted) 0 := ⟨⟨by decide, by decide⟩, by decide +kernel⟩
theorem zpm_X6_denied : zprm (yN zy_X6_denied) 1 := ⟨⟨by decide, by decide⟩, by decide +kernel⟩
theorem zpm_X6_done : zprm (yN zy_X6_done) 1 := ⟨⟨by decide, by decide⟩, by decide +kernel⟩
theorem zpm_X6_refused : zprm (yN zy_X6_refused) 1 := ⟨⟨by decide, by decide⟩, by decide +kernel⟩
theorem zpm_X6_in : zprm (yN zy_X6_in) 3 := ⟨⟨by decide, by decide⟩, by decide +kernel⟩
theorem zpm_X6_wrong : zprm (yN zy_X6_wrong) 1 := ⟨⟨by decide, by decide⟩, by decide +kernel⟩
theorem zpm_X6_readPlan : zprm (yN zy_X6_readPlan) 0 := ⟨⟨by decide, by decide⟩, by decide +kernel⟩
theorem zpm_X6_start : zprm (yN zy_X6_start) 1 := ⟨⟨by decide, by decide⟩, by decide +kernel⟩
theorem zpm_X6_next : zprm (yN zy_X6_next) 0 := ⟨⟨by decide, by decide⟩, by decide +kernel⟩
theorem zpm_X6_byteAt : zprm (yN zy_X6_byteAt) 1 := ⟨⟨by decide, by decide⟩, by decide +kernel⟩
theorem zpm_X6_isDigit : zprm (yN zy_X6_isDigit) 1 := ⟨⟨by decide, by decide⟩, by decide +kernel⟩
theorem zpm_X6_isLetter : zprm (yN zy_X6_isLetter) 1 := ⟨⟨by decide, by decide⟩, by decide +kernel⟩
theorem zpm_X6_stop : zprm (yN zy_X6_stop) 1 := ⟨⟨by decide, by decide⟩, by decide +kernel⟩
theorem zpm_X6_is : zprm (yN zy_X6_is) 1 := ⟨⟨by decide, by decide⟩, by decide +kernel⟩
theorem zpm_X6_actHere : zprm (yN zy_X6_actHere) 0 := ⟨⟨by decide, by decide⟩, by decide +kernel⟩
theorem zpm_X6_isWord : zprm (yN zy_X6_isWord) 1 := ⟨⟨by decide, by decide⟩, by decide +kernel⟩
theorem zpm_X6_readTest : zprm (yN zy_X6_readTest) 1 := ⟨⟨by decide, by decide⟩, by decide +kernel⟩
theorem zpm_X6_wordOf : zprm (yN zy_X6_wordOf) 1 := ⟨⟨by decide, by decide⟩, by decide +kernel⟩
theorem zpm_J3_charAt : zprm (yN zy_J3_charAt) 1 := ⟨⟨by decide, by decide⟩, by decide +kernel⟩
theorem zpm_J3_length : zprm (yN zy_J3_length) 0 := ⟨⟨by decide, by decide⟩, by decide +kernel⟩
theorem zpm_X6_needNumber : zprm (yN zy_X6_needNumber) 0 := ⟨⟨by decide, by decide⟩, by decide +kernel⟩
theorem zpm_X6_nameHere : zprm (yN zy_X6_nameHere) 0 := ⟨⟨by decide, by decide⟩, by decide +kernel⟩
theorem zpm_X6_readLaws : zprm (yN zy_X6_readLaws) 0 := ⟨⟨by decide, by decide⟩, by decide +kernel⟩
theorem zpm_X6_needWord : zprm (yN zy_X6_needWord) 1 := ⟨⟨by decide, by decide⟩, by decide +kernel⟩
theorem zpm_X7_begin : zprm (yN zy_X7_begin) 5 := ⟨⟨by decide, by decide⟩, by decide +kernel⟩
theorem zpm_X6_isPlan : zprm (yN zy_X6_isPlan) 1 := ⟨⟨by decide, by decide⟩, by decide +kernel⟩
theorem zpm_X6_isTeam : zprm (yN zy_X6_isTeam) 1 := ⟨⟨by decide, by decide⟩, by decide +kernel⟩
theorem zpm_X6_way : zprm (yN zy_X6_way) 1 := ⟨⟨by decide, by decide⟩, by decide +kernel⟩
theorem zpm_X7_inGap : zprm (yN zy_X7_inGap) 1 := ⟨⟨by decide, by decide⟩, by decide +kernel⟩
theorem zpm_X6_leads : zprm (yN zy_X6_leads) 2 := ⟨⟨by decide, by decide⟩, by decide +kernel⟩
theorem zpm_X6_isOver : zprm (yN zy_X6_isOver) 0 := ⟨⟨by decide, by decide⟩, by decide +kernel⟩
theorem zpm_X7_gain : zprm (yN zy_X7_gain) 1 := ⟨⟨by decide, by decide⟩, by decide +kernel⟩
theorem zpm_X7_weakest : zprm (yN zy_X7_weakest) 0 := ⟨⟨by decide, by decide⟩, by decide +kernel⟩
theorem zpm_X7_of : zprm (yN zy_X7_of) 1 := ⟨⟨by decide, by decide⟩, by decide +kernel⟩
theorem zpm_X6_goes : zprm (yN zy_X6_goes) 3 := ⟨⟨by decide, by decide⟩, by decide +kernel⟩
theorem zpm_X6_holds : zprm (yN zy_X6_holds) 3 := ⟨⟨by decide, by decide⟩, by decide +kernel⟩
theorem zpm_X6_valueOf : zprm (yN zy_X6_valueOf) 3 := ⟨⟨by decide, by decide⟩, by decide +kernel⟩
theorem zpm_X7_mean : zprm (yN zy_X7_mean) 0 := ⟨⟨by decide, by decide⟩, by decide +kernel⟩
theorem zpm_X6_resultOf : zprm (yN zy_X6_resultOf) 1 := ⟨⟨by decide, by decide⟩, by decide +kernel⟩
theorem zpm_X6_lacksOf : zprm (yN zy_X6_lacksOf) 2 := ⟨⟨by decide, by decide⟩, by decide +kernel⟩
theorem zpm_X6_less : zprm (yN zy_X6_less) 3 := ⟨⟨by decide, by decide⟩, by decide +kernel⟩
theorem zpm_X6_isAhead : zprm (yN zy_X6_isAhead) 2 := ⟨⟨by decide, by decide⟩, by decide +kernel⟩
theorem zpm_X6_trail : zprm (yN zy_X6_trail) 0 := ⟨⟨by decide, by decide⟩, by decide +kernel⟩
theorem zpm_X6_trouble : zprm (yN zy_X6_trouble) 0 := ⟨⟨by decide, by decide⟩, by decide +kernel⟩
theorem zpm_X0_trouble : zprm (yN zy_X0_trouble) 0 := ⟨⟨by decide, by decide⟩, by decide +kernel⟩
theorem zpm_X6_count : zprm (yN zy_X6_count) 1 := ⟨⟨by decide, by decide⟩, by decide +kernel⟩
theorem zpm_X0_count : zprm (yN zy_X0_count) 1 := ⟨⟨by decide, by decide⟩, by decide +kernel⟩
theorem zpm_X6_planned : zprm (yN zy_X6_planned) 2 := ⟨⟨by decide, by decide⟩, by decide +kernel⟩
theorem zpm_X0_planned : zprm (yN zy_X0_planned) 2 := ⟨⟨by decide, by decide⟩, by decide +kernel⟩
theorem zpm_X6_law : zprm (yN zy_X6_law) 2 := ⟨⟨by decide, by decide⟩, by decide +kernel⟩
theorem zpm_X0_law : zprm (yN zy_X0_law) 2 := ⟨⟨by decide, by decide⟩, by decide +kernel⟩
theorem zpm_X6_back : zprm (yN zy_X6_back) 0 := ⟨⟨by decide, by decide⟩, by decide +kernel⟩
theorem zpm_X0_back : zprm (yN zy_X0_back) 0 := ⟨⟨by decide, by decide⟩, by decide +kernel⟩
theorem zpm_X6_keep : zprm (yN zy_X6_keep) 0 := ⟨⟨by decide, by decide⟩, by decide +kernel⟩
theorem zpm_X0_keep : zprm (yN zy_X0_keep) 0 := ⟨⟨by decide, by decide⟩, by decide +kernel⟩
theorem zpm_X6_replay : zprm (yN zy_X6_replay) 3 := ⟨⟨by decide, by decide⟩, by decide +kernel⟩
theorem zpm_X0_replay : zprm (yN zy_X0_replay) 3 := ⟨⟨by decide, by decide⟩, by decide +kernel⟩
theorem zpm_X6_signs : zprm (yN zy_X6_signs) 1 := ⟨⟨by decide, by decide⟩, by decide +kernel⟩
theorem zpm_X0_signs : zprm (yN zy_X0_signs) 1 := ⟨⟨by decide, by decide⟩, by decide +kernel⟩
theorem zpm_X6_spot : zprm (yN zy_X6_spot) 3 := ⟨⟨by decide, by decide⟩, by decide +kernel⟩
theorem zpm_X0_spot : zprm (yN zy_X0_spot) 3 := ⟨⟨by decide, by decide⟩, by decide +kernel⟩
theorem zpm_X6_came : zprm (yN zy_X6_came) 2 := ⟨⟨by decide, by decide⟩, by decide +kernel⟩
theorem zpm_X0_came : zprm (yN zy_X0_came) 2 := ⟨⟨by decide, by decide⟩, by decide +kernel⟩
theorem zpm_X6_place : zprm (yN zy_X6_place) 1 := ⟨⟨by decide, by decide⟩, by decide +kernel⟩
theorem zpm_X0_place : zprm (yN zy_X0_place) 1 := ⟨⟨by decide, by decide⟩, by decide +kernel⟩
theorem zpm_X6_lacks : zprm (yN zy_X6_lacks) 2 := ⟨⟨by decide, by decide⟩, by decide +kernel⟩
theorem zpm_X0_lacks : zprm (yN zy_X0_lacks) 2 := ⟨⟨by decide, by decide⟩, by decide +kernel⟩
theorem zpm_X6_result : zprm (yN zy_X6_result) 1 := ⟨⟨by decide, by decide⟩, by decide +kernel⟩
theorem zpm_X0_result : zprm (yN zy_X0_result) 1 := ⟨⟨by decide, by decide⟩, by decide +kernel⟩
theorem zpm_X6_did : zprm (yN zy_X6_did) 1 := ⟨⟨by decide, by decide⟩, by decide +kernel⟩
theorem zpm_X0_did : zprm (yN zy_X0_did) 1 := ⟨⟨by decide, by decide⟩, by decide +kernel⟩
theorem zpm_X6_time : zprm (yN zy_X6_time) 3 := ⟨⟨by decide, by decide⟩, by decide +kernel⟩
theorem zpm_X0_time : zprm (yN zy_X0_time) 3 := ⟨⟨by decide, by decide⟩, by decide +kernel⟩
theorem zpm_X6_dog : zprm (yN zy_X6_dog) 3 := ⟨⟨by decide, by decide⟩, by decide +kernel⟩
theorem zpm_X0_dog : zprm (yN zy_X0_dog) 3 := ⟨⟨by decide, by decide⟩, by decide +kernel⟩
theorem zpm_X6_about : zprm (yN zy_X6_about) 2 := ⟨⟨by decide, by decide⟩, by decide +kernel⟩
theorem zpm_X0_about : zprm (yN zy_X0_about) 2 := ⟨⟨by decide, by decide⟩, by decide +kernel⟩
theorem zpm_X6_run : zprm (yN zy_X6_run) 1 := ⟨⟨by decide, by decide⟩, by decide +kernel⟩
theorem zpm_X0_run : zprm (yN zy_X0_run) 1 := ⟨⟨by decide, by decide⟩, by decide +kernel⟩
theorem zpm_X6_each : zprm (yN zy_X6_each) 1 := ⟨⟨by decide, by decide⟩, by decide +kernel⟩
theorem zpm_X0_each : zprm (yN zy_X0_each) 1 := ⟨⟨by decide, by decide⟩, by decide +kernel⟩
theorem zpm_X6_gap : zprm (yN zy_X6_gap) 3 := ⟨⟨by decide, by decide⟩, by decide +kernel⟩
theorem zpm_X0_gap : zprm (yN zy_X0_gap) 3 := ⟨⟨by decide, by decide⟩, by decide +kernel⟩
theorem zpm_X6_follow : zprm (yN zy_X6_follow) 2 := ⟨⟨by decide, by decide⟩, by decide +kernel⟩
theorem zpm_X0_follow : zprm (yN zy_X0_follow) 2 := ⟨⟨by decide, by decide⟩, by decide +kernel⟩
theorem zpm_X6_team : zprm (yN zy_X6_team) 5 := ⟨⟨by decide, by decide⟩, by decide +kernel⟩
theorem zpm_X0_team : zprm (yN zy_X0_team) 5 := ⟨⟨by decide, by decide⟩, by decide +kernel⟩
theorem zpm_X6_where : zprm (yN zy_X6_where) 0 := ⟨⟨by decide, by decide⟩, by decide +kernel⟩
theorem zpm_X0_where : zprm (yN zy_X0_where) 0 := ⟨⟨by decide, by decide⟩, by decide +kernel⟩
theorem zpm_X6_fault : zprm (yN zy_X6_fault) 0 := ⟨⟨by decide, by decide⟩, by decide +kernel⟩
theorem zpm_X0_fault : zprm (yN zy_X0_fault) 0 := ⟨⟨by decide, by decide⟩, by decide +kernel⟩
theorem zpm_X6_laws : zprm (yN zy_X6_laws) 1 := ⟨⟨by decide, by decide⟩, by decide +kernel⟩
theorem zpm_X0_laws : zprm (yN zy_X0_laws) 1 := ⟨⟨by decide, by decide⟩, by decide +kernel⟩
theorem zpm_X6_plan : zprm (yN zy_X6_plan) 1 := ⟨⟨by decide, by decide⟩, by decide +kernel⟩
theorem zpm_X0_plan : zprm (yN zy_X0_plan) 1 := ⟨⟨by decide, by decide⟩, by decide +kernel⟩
theorem zpm_X6_feed : zprm (yN zy_X6_feed) 5 := ⟨⟨by decide, by decide⟩, by decide +kernel⟩
theorem zpm_X0_feed : zprm (yN zy_X0_feed) 5 := ⟨⟨by decide, by decide⟩, by decide +kernel⟩
theorem zpm_X6_cold : zprm (yN zy_X6_cold) 3 := ⟨⟨by decide, by decide⟩, by decide +kernel⟩
theorem zpm_X0_cold : zprm (yN zy_X0_cold) 3 := ⟨⟨by decide, by decide⟩, by decide +kernel⟩
theorem zpm_X6_leg : zprm (yN zy_X6_leg) 2 := ⟨⟨by decide, by decide⟩, by decide +kernel⟩
theorem zpm_X0_leg : zprm (yN zy_X0_leg) 2 := ⟨⟨by decide, by decide⟩, by decide +kernel⟩
theorem zpm_X6_init : zprm (yN zy_X6_init) 0 := ⟨⟨by decide, by decide⟩, by decide +kernel⟩
theorem zpm_X0_init : zprm (yN zy_X0_init) 0 := ⟨⟨by decide, by decide⟩, by decide +kernel⟩
theorem zpx_0 : zprm ({ cls := "SledHouse$Law", name := "number", desc := "(I)I" } : Jvm.MethodName) 1 := ⟨⟨by decide, by decide⟩, by decide +kernel⟩
theorem zpx_1 : zprm ({ cls := "SledHouse$Law", name := "isRest", desc := "()Z" } : Jvm.MethodName) 0 := ⟨⟨by decide, by decide⟩, by decide +kernel⟩
theorem zpx_2 : zprm ({ cls := "SledHouse$Law", name := "lacks", desc := "(LSledHouse$Team;LSledHouse$World;)I" } : Jvm.MethodName) 2 := ⟨⟨by decide, by decide⟩, by decide +kernel⟩
