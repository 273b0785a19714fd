/-! methods that make cells: what the answer and the world are is a predicate; at most MC cells of MS slots come -/
set_option maxRecDepth 100000
def bq_QN (D : va_G) (cl : List vw_C) (Post : Option Value → va_W → Prop) (A : Nat → Prop) : Array Value → State → Outcome → State → Prop := fun _ st oc t => (∃ (o : Option Value) (w' : va_W), Post o w' ∧ oc = .returned o ∧ va_P D cl w' t.heap ∧ va_D A w') ∧ va_F A st t
def bq_N (l : Launch) (y : MethodName) (b : ByteArray) (nL : Nat) (ret : Option FieldType) (NF NL MC MS : Nat) (D : va_G) (cl : List vw_C) (tys : List (ClassId × FieldType)) (am : bqAm) (args : List Value) (w : va_W) (Post : Option Value → va_W → Prop) : Prop :=
  ∀ sz : Nat, Met l y (ws_ y b nL ret) { frames := NF, cells := MC, slots := MS, locals := NL } (bq_P D cl tys am args w sz) (bq_QN D cl Post (va_A w sz)) MC MS (va_A w sz)
theorem bq_ofN {l : Launch} {y : MethodName} {b : ByteArray} {nL : Nat} {ret : Option FieldType} {NF NL MC MS : Nat} {D : va_G} {cl : List vw_C} {tys : List (ClassId × FieldType)} {am : bqAm} {args : List Value} {w : va_W} {Post : Option Value → va_W → Prop} (hok : bq_Ok am) (hy : plainName y.cls = true) (hn : (lg_sl args).length ≤ nL)
    (body : ∀ (p : Program) (e : Env) (s : State) (m : MethodId) (below : List Frame) (meth : Method) (c : Code) (A : Nat → Prop) (ls : Array Slot), bq_C p { frames := NF, cells := MC, slots := MS, locals := NL } s m args.toArray meth c A D cl tys am b nL y.cls NF NL → meth.sig.returnType = ret → meth.name = y.name → va_P D cl w s.heap → va_D A w → va_S A s.heap s.heap [] → lv_has ls nL (lv_args 0 args) →
      W p l e { frames := NF, cells := MC, slots := MS, locals := NL } s m args.toArray below meth c s.heap [] 0 0 (MQ below (bq_QN D cl Post A) args.toArray s MC MS A) (F0 m 0 ls [])) : bq_N l y b nL ret NF NL MC MS D cl tys am args w Post := by
  intro sz
  refine Met.ofW (cc := b) (maxL := nL) (ret := ret) hy rfl ?_
  intro p e s m args' below meth c s₁ B hml hv
  obtain ⟨rfl, hsz, hP, hK, hD0, hm⟩ := hv
  have hts := atoms_spec (ws := ws_ y b nL ret) B.pre
  have hts : ∀ w ∈ lw_all, w.before _ s = true := fun w h => hts w (List.mem_cons_of_mem _ h)
  have hown : s.vm.findClass y.cls = some m.cls := findClass_of_methodNamed B.named
  subst hsz
  have hl := lv_entry args (n := nL) hn
  rw [lg_entry_eq]
  exact body p e s m below meth c _ _ ⟨B.exec, B.bytes, hown, hts, hml, B.notSynchronized, fun q h => Or.inr h, hK, hm, Nat.le_refl _, Nat.le_refl _, hok⟩ B.returns (name_of_methodNamed B.named B.method).1 hP hD0.self va_S.rf hl
section BQN
variable {p : Program} {l : Launch} {e : Env} {R : Room} {s : State} {m : MethodId} {args : Array Value} {below : List Frame} {meth : Method} {c : Code} {H : Heap} {locs : List Loc} {Q : State → Prop} {A : Nat → Prop} {D : va_G} {cl : List vw_C} {tys : List (ClassId × FieldType)} {am : bqAm} {cc : ByteArray} {nL NF NL pc kc ks MC MS : Nat} {own : String} {ls : Array Slot} {rest st : List Value} {o : Option Value} {w w' wr W0 : va_W} {Post : Option Value → va_W → Prop}
theorem bq_vretN (C : bq_C p R s m args meth c A D cl tys am cc nL own NF NL) (hr : meth.sig.returnType = none) (h1 : kc ≤ MC) (h2 : ks ≤ MS) (hp : Post none w) (hP : va_P D cl w H) (hD : va_D A w) (hS : va_S A s.heap H locs) (hdg : decode cc pc = .ok (.return_, 1)) :
    W p l e R s m args below meth c H locs kc ks (MQ below (bq_QN D cl Post A) args s MC MS A) (F0 m pc ls []) := by
  obtain ⟨hx, hb, hown, hts, hml, hlocks, hA, hK, hm, -, -, -⟩ := C
  exact W.widen h1 h2 (W.vret hx hb hr (fun t ht hW => ⟨⟨none, w, hp, rfl, by rw [ht]; exact hP, hD⟩, hS.F ht⟩) hS.2.2 hdg hlocks)
theorem bq_aretN {q : Nat} {ty : FieldType} (C : bq_C p R s m args meth c A D cl tys am cc nL own NF NL) (hr : meth.sig.returnType = some ty) (hty : (∃ cn, ty = .object cn) ∨ ∃ t, ty = .array t) (h1 : kc ≤ MC) (h2 : ks ≤ MS) (hp : Post (some (.ref q)) w) (hP : va_P D cl w H) (hD : va_D A w) (hS : va_S A s.heap H locs) (hdg : decode cc pc = .ok (.areturn, 1)) :
    W p l e R s m args below meth c H locs kc ks (MQ below (bq_QN D cl Post A) args s MC MS A) (F0 m pc ls [.ref q]) := by
  obtain ⟨hx, hb, hown, hts, hml, hlocks, hA, hK, hm, -, -, -⟩ := C
  exact W.widen h1 h2 (W.aret hx hb hr hty (Or.inr ⟨_, rfl⟩) (fun t ht hW => ⟨⟨some (.ref q), w, hp, rfl, by rw [ht]; exact hP, hD⟩, hS.F ht⟩) hS.2.2 hdg hlocks)
theorem bq_finN {MC' MS' : Nat} {a : Array Value} (hr : va_Run p l e R s m args below meth c H locs kc ks MC' MS' (F0 m pc ls st) rest (bq_QN D cl Post (va_A w H.size) a) (va_A w H.size)) (hA : ∀ q : Nat, s.heap.size ≤ q → A q) (hP : va_P D cl W0 H) (hD : va_D A W0) (hS : va_S A s.heap H locs) (hp : W0.Perm (w ++ wr))
    (kk : ∀ (o : Option Value) (w' : va_W), Post o w' → ∀ (H1 : Heap) (locs1 : List Loc), va_P D cl (w' ++ wr) H1 → va_D A (w' ++ wr) → va_S A s.heap H1 locs1 → W p l e R s m args below meth c H1 locs1 (kc + MC') (ks + MS') Q (F0 m (pc + 3) ls (o.toList ++ rest))) : W p l e R s m args below meth c H locs kc ks Q (F0 m pc ls st) := by
  have hF := bq_free hD hS hA hp
  intro T hT X
  obtain ⟨v, st₀, t, T', L, h0, X', hL, e1, e2, ⟨⟨o, w', hPost, hv, hP1, hD1⟩, hz, hk⟩, stp⟩ := hr T hT X
  cases hv
  rw [h0] at hz hk
  rw [← e1] at hP1 hz hk
  obtain ⟨hP2, hD2⟩ := bq_join hP hD hp hk hF hP1 hD1
  obtain ⟨t2, a1, b1⟩ := kk v w' hPost T'.heap (locs ++ L) hP2 hD2
    ⟨Nat.le_trans hS.1 hz, fun q h1 h2 => by rw [hk q (Nat.lt_of_lt_of_le h1 hS.1) (fun z => h2 (hF q z))]; exact hS.2.1 q h1 h2, fun q hq => by
      rcases List.mem_append.mp hq with h | h
      · exact hS.2.2 q h
      · exact hF _ (hL q h)⟩ T' rfl X'
  exact ⟨t2, stp t2 a1, b1⟩
/-- a constructor's call -/
theorem bq_cIN {bs bc br : List va_W} {y : MethodName} {by' : ByteArray} {nY NF' NL' MC' MS' index n : Nat} {b : Nat} {As : List Value} (C : bq_C p R s m args meth c A D cl tys am cc nL own NF NL) (hkc : kc + MC' ≤ R.cells) (hks : ks + MS' ≤ R.slots) (hM : bq_N l y by' nY none NF' NL' MC' MS' D cl tys am (.ref b :: As) bc.flatten Post)
    (hp1 : bs.Perm (bc ++ br)) (hl : Cond.methodLink own index y ∈ lw_all) (hin : Cond.instanceMethod y ∈ lw_all) (hini : Cond.initialized y.cls ∈ lw_all) (hcode : Cond.code y by' nY none ∈ lw_all) (hy1 : y.name = "<init>")
    (hd : y.cls ≠ "java/lang/invoke/MethodHandle" ∧ y.cls ≠ "java/lang/invoke/VarHandle" ∧ (parseMethodDescriptor y.desc).map (fun d => d.parameters.length) = some n) (hNF : NF' + 1 ≤ NF) (hNL : 8 + (nY + 11) + NL' ≤ NL)
    (hn : As.length = n) (hls : ls.size = nL) (hst : st = As.reverse ++ .ref b :: rest) (hc8 : (rest.map fun v => v.category).sum ≤ 8) (hdg : decode cc pc = .ok (.invokespecial index, 3))
    (hP : va_P D cl bs.flatten H) (hD : va_D A bs.flatten) (hS : va_S A s.heap H locs)
    (kk : ∀ (o : Option Value) (w' : va_W), Post o w' → ∀ (H1 : Heap) (locs1 : List Loc), va_P D cl (List.flatten (w' :: br)) H1 → va_D A (List.flatten (w' :: br)) → va_S A s.heap H1 locs1 → W p l e R s m args below meth c H1 locs1 (kc + MC') (ks + MS') Q (F0 m (pc + 3) ls (o.toList ++ rest))) : W p l e R s m args below meth c H locs kc ks Q (F0 m pc ls st) := by
  have C0 := C
  obtain ⟨hx, hb, hown, hts, hml, hlocks, hA, hK, hm, hRf, hRl, hok⟩ := C
  have hp : bs.flatten.Perm (bc.flatten ++ br.flatten) := by rw [← List.flatten_append]; exact bq_flat hp1
  exact bq_finN (va_runI (As := As) (rest := rest) ⟨hx, hb, hml, hown, hts⟩ (hM H.size) (cwI n hts (lw_meth hcode) rfl rfl rfl (hts _ hini) (hts _ hl) (hts _ hin) hy1 hd ⟨Nat.le_trans hNF hRf, Nat.le_trans hNL hRl⟩) ⟨bq_blind hok, fun U hU hW => bq_pre C0 hP hD hS hp hU hW⟩ rfl hn hls hst (lv_room hc8) hdg ⟨hkc, hks⟩) hA hP hD hS hp kk
/-- Object() -/
theorem bq_obj {index : Nat} {b : Nat} (C : bq_C p R s m args meth c A D cl tys am cc nL own NF NL) (hl : Cond.methodLink own index Lib.objectInit ∈ lw_all) (hNF : 1 ≤ NF) (hNL : 20 ≤ NL) (hls : ls.size = nL) (hc8 : (rest.map fun v => v.category).sum ≤ 8) (hdg : decode cc pc = .ok (.invokespecial index, 3))
    (kk : W p l e R s m args below meth c H locs kc ks Q (F0 m (pc + 3) ls rest)) : W p l e R s m args below meth c H locs kc ks Q (F0 m pc ls (.ref b :: rest)) := by
  obtain ⟨hx, hb, hown, hts, hml, hlocks, hA, hK, hm, hRf, hRl, hok⟩ := C
  refine W.objInit hx hb hown (hts _ hl) (hts _ q158) (hts _ q159) rfl (by rw [hml]; exact hls) rfl hdg (Nat.le_trans hNF hRf) ?_ kk
  show 2 * (F0 m pc ls (.ref b :: rest)).monitorRoom + _ + 12 ≤ _
  have : 2 * (F0 m pc ls (.ref b :: rest)).monitorRoom + (rest.map fun v => v.category).sum ≤ 8 := lv_room hc8
  omega
theorem va_RA_uniq {U : State} {cA cB : ClassId} {ty : FieldType} (h1 : va_RA U cA ty) (h2 : va_RA U cB ty) : cA = cB := by
  cases ty with
  | object C =>
    obtain ⟨_, _, _, _, _, h1⟩ := h1
    obtain ⟨_, _, _, _, _, h2⟩ := h2
    exact Option.some.inj (h1.symm.trans h2)
  | _ => exact Option.some.inj (Eq.trans (Eq.symm h1) h2)
/-- a new array of a kind that the world knows -/
theorem bq_newa {bs : List va_W} {d : Nat → ClassId} {t N : Nat} {ty : FieldType} {atype : ArrayType} {H0 : Heap} (hx : p.tables.exec = Jvm.exec) (hb : c.code = cc) (harr : (Cond.arrayClass (newarray.typeOf atype)).before args s = true) (hty : newarray.typeOf atype = ty) (ht : (bqTy d)[t]? = some (d t, ty)) (hK : va_K D cl (bqTy d) s) (hP : va_P D cl bs.flatten H) (hD : va_D A bs.flatten) (hS : va_S A H0 H locs) (hA : ∀ q, H0.size ≤ q → A q)
    {n : Int32} (ha : ∀ cA : ClassId, vp_cell cA (N, .inl fun _ => 0) = arrV cA N (fun _ => defaultValue ty)) (hn : ¬ n < 0) (hN : n.toNatClampNeg = N) (hbytes : N * componentBytes ty ≤ 536870912) (hcells : kc + 1 ≤ R.cells) (hslots : ks + N ≤ R.slots) (hdg : decode cc pc = .ok (.newarray atype, 2))
    (kk : ∀ (q : Nat) (H1 : Heap), va_P D cl (List.flatten ([(q, .inl (d t, N, .inl fun _ => 0))] :: bs)) H1 → va_D A (List.flatten ([(q, .inl (d t, N, .inl fun _ => 0))] :: bs)) → va_S A H0 H1 locs → W p l e R s m args below meth c H1 locs (kc + 1) (ks + N) Q (F0 m (pc + 2) ls (.ref q :: rest))) : W p l e R s m args below meth c H locs kc ks Q (F0 m pc ls (.int n :: rest)) := by
  refine va_newa hx hb harr hty hK hP hD hS hA ha hn hN hbytes hcells hslots hdg (fun q cA H1 hK1 hP1 hD1 hS1 => ?_)
  have e1 := (hK.2 t _ ht).2
  have e2 := (hK1.2 (bqTy d).length (cA, ty) (by rw [List.getElem?_append_right (Nat.le_refl _)]; simp)).2
  have e3 : cA = d t := va_RA_uniq e2 e1
  subst e3
  have hp : (bs.flatten ++ [(q, (.inl (d t, N, .inl fun _ => 0) : va_E))]).Perm (List.flatten ([(q, .inl (d t, N, .inl fun _ => 0))] :: bs)) := by
    rw [List.flatten_cons]
    exact List.perm_append_comm
  exact kk q H1 (bq_Pp hp hP1) (bq_Dp hp hD1) hS1
theorem bq_fr {bs : List va_W} {x : Nat × va_E} (h : va_P D cl (bs.flatten ++ [x]) H) : va_P D cl (List.flatten ([x] :: bs)) H := bq_Pp (by rw [List.flatten_cons]; exact List.perm_append_comm) h
theorem bq_frD {bs : List va_W} {x : Nat × va_E} (h : va_D A (bs.flatten ++ [x])) : va_D A (List.flatten ([x] :: bs)) := bq_Dp (by rw [List.flatten_cons]; exact List.perm_append_comm) h
end BQN
theorem bq_nMw {am : bqAm} {X vE sE : Nat → Nat} {A : Nat → Prop} {s : State} (h : bq_Amb am X vE sE) (hm : am A s s.heap) (n : Nat) {a ho : String} {i : Nat} {x : MethodName} (hn : bqNM[n]? = some (a, i, x, ho)) : va_Nw (.methodLinkNest a i x ho) s := (h.2 A s hm).2.1 _ (List.mem_of_getElem? hn)
/-- a nest mate's constructor -/
theorem bq_cINn {p : Program} {l : Launch} {e : Env} {R : Room} {s : State} {m : MethodId} {args : Array Value} {below : List Frame} {meth : Method} {c : Code} {H : Heap} {locs : List Loc} {Q : State → Prop} {A : Nat → Prop} {D : va_G} {cl : List vw_C} {tys : List (ClassId × FieldType)} {am : bqAm} {cc : ByteArray} {nL NF NL pc kc ks : Nat} {own host : String} {ls : Array Slot} {rest st : List Value} {Post : Option Value → va_W → Prop} {bs bc br : List va_W} {y : MethodName} {by' : ByteArray} {nY NF' NL' MC' MS' index n : Nat} {b : Nat} {As : List Value} (C : bq_C p R s m args meth c A D cl tys am cc nL own NF NL) (hkc : kc + MC' ≤ R.cells) (hks : ks + MS' ≤ R.slots) (hM : bq_N l y by' nY none NF' NL' MC' MS' D cl tys am (.ref b :: As) bc.flatten Post)
    (hp1 : bs.Perm (bc ++ br)) (hl : va_Nw (.methodLinkNest own index y host) s) (hin : Cond.instanceMethod y ∈ lw_all) (hini : Cond.initialized y.cls ∈ lw_all) (hcode : Cond.code y by' nY none ∈ lw_all) (hy1 : y.name = "<init>")
    (hd : y.cls ≠ "java/lang/invoke/MethodHandle" ∧ y.cls ≠ "java/lang/invoke/VarHandle" ∧ (parseMethodDescriptor y.desc).map (fun d => d.parameters.length) = some n) (hNF : NF' + 1 ≤ NF) (hNL : 8 + (nY + 11) + NL' ≤ NL)
    (hn : As.length = n) (hls : ls.size = nL) (hst : st = As.reverse ++ .ref b :: rest) (hc8 : (rest.map fun v => v.category).sum ≤ 8) (hdg : decode cc pc = .ok (.invokespecial index, 3))
    (hP : va_P D cl bs.flatten H) (hD : va_D A bs.flatten) (hS : va_S A s.heap H locs)
    (kk : ∀ (o : Option Value) (w' : va_W), Post o w' → ∀ (H1 : Heap) (locs1 : List Loc), va_P D cl (List.flatten (w' :: br)) H1 → va_D A (List.flatten (w' :: br)) → va_S A s.heap H1 locs1 → W p l e R s m args below meth c H1 locs1 (kc + MC') (ks + MS') Q (F0 m (pc + 3) ls (o.toList ++ rest))) : W p l e R s m args below meth c H locs kc ks Q (F0 m pc ls st) := by
  have C0 := C
  obtain ⟨hx, hb, hown, hts, hml, hlocks, hA, hK, hm, hRf, hRl, hok⟩ := C
  have hp : bs.flatten.Perm (bc.flatten ++ br.flatten) := by rw [← List.flatten_append]; exact bq_flat hp1
  exact bq_finN (va_runIN (As := As) (rest := rest) ⟨hx, hb, hml, hown, hts⟩ (hM H.size) ⟨va_cnB n hts (lw_meth hcode) rfl rfl rfl hl (hts _ hini) hd ⟨Nat.le_trans hNF hRf, Nat.le_trans hNL hRl⟩, hy1, hts _ hin⟩ ⟨bq_blind hok, fun U hU hW => bq_pre C0 hP hD hS hp hU hW⟩ rfl hn hls hst (lv_room hc8) hdg ⟨hkc, hks⟩) hA hP hD hS hp kk
theorem bq_ao {am : bqAm} {X vE sE : Nat → Nat} {A : Nat → Prop} {s : State} (h : bq_Amb am X vE sE) (hm : am A s s.heap) {C : String} (hC : C ∈ (["java/lang/Object", "BlueBag$Value", "java/lang/String"] : List String)) : va_AO C s := (h.2 A s hm).2.2.2.2.1 _ hC
section BQN2
variable {p : Program} {l : Launch} {e : Env} {R : Room} {s : State} {m : MethodId} {args : Array Value} {below : List Frame} {meth : Method} {c : Code} {H : Heap} {locs : List Loc} {Q : State → Prop} {A : Nat → Prop} {D : va_G} {cl : List vw_C} {tys : List (ClassId × FieldType)} {am : bqAm} {cc : ByteArray} {nL NF NL pc kc ks MC MS : Nat} {own : String} {ls : Array Slot} {rest st : List Value} {o : Option Value} {w w' wr W0 : va_W} {Post : Option Value → va_W → Prop}
/-- a new array of references -/
theorem bq_newq {bs : List va_W} {d : Nat → ClassId} {t N index : Nat} {C : String} {H0 : Heap} (hx : p.tables.exec = Jvm.exec) (hb : c.code = cc) (hown : s.vm.findClass own = some m.cls) (hcl : (Cond.classLink own index C).before args s = true) (hover : va_AO C s) (ht : (bqTy d)[t]? = some (d t, .object C)) (hK : va_K D cl (bqTy d) s) (hP : va_P D cl bs.flatten H) (hD : va_D A bs.flatten) (hS : va_S A H0 H locs) (hA : ∀ q, H0.size ≤ q → A q)
    {n : Int32} (hn : ¬ n < 0) (hN : n.toNatClampNeg = N) (hbytes : N * 4 ≤ 536870912) (hcells : kc + 1 ≤ R.cells) (hslots : ks + N ≤ R.slots) (hdg : decode cc pc = .ok (.anewarray index, 3))
    (kk : ∀ (q : Nat) (H1 : Heap), va_P D cl (List.flatten ([(q, .inl (d t, N, .inr (.inr (.inr (.inr fun _ => none)))))] :: bs)) H1 → va_D A (List.flatten ([(q, .inl (d t, N, .inr (.inr (.inr (.inr fun _ => none)))))] :: bs)) → va_S A H0 H1 locs → W p l e R s m args below meth c H1 locs (kc + 1) (ks + N) Q (F0 m (pc + 3) ls (.ref q :: rest))) : W p l e R s m args below meth c H locs kc ks Q (F0 m pc ls (.int n :: rest)) := by
  refine va_newq hx hb hown hcl hover hK hP hD hS hA hn hN hbytes hcells hslots hdg (fun q cA H1 hK1 hP1 hD1 hS1 => ?_)
  have e1 := (hK.2 t _ ht).2
  have e2 := (hK1.2 (bqTy d).length (cA, .object C) (by rw [List.getElem?_append_right (Nat.le_refl _)]; simp)).2
  have e3 : cA = d t := va_RA_uniq e2 e1
  subst e3
  exact kk q H1 (bq_fr hP1) (bq_frD hD1) hS1
/-- an ambient text into an array of texts -/
theorem bq_asts {X : Nat → Nat} {ws : va_W} {d : Nat → ClassId} {n j a : Nat} {f : Nat → Option Nat} (hx : p.tables.exec = Jvm.exec) (hb : c.code = cc) (hK : va_K D cl (bqTy d) s) (hP : va_P D cl ws H) (hD : va_D A ws) (hS : va_S A s.heap H locs) (hstr : bq_Str am X) (hm : am A s s.heap) (hj : j < bqNS) (q0 : Nat) (ha : ws[q0]? = some (a, .inl (d 1, n, .inr (.inr (.inr (.inr f)))))) {i : Int32} {k : Nat} (hk : i.toNatClampNeg = k) (hin : vp_in i n) (hdg : decode cc pc = .ok (.aastore, 1))
    (kk : ∀ (H1 : Heap) (locs1 : List Loc), va_P D cl (ws.set q0 (a, .inl (d 1, n, .inr (.inr (.inr (.inr (va_up f k (some (X j))))))))) H1 → va_D A (ws.set q0 (a, .inl (d 1, n, .inr (.inr (.inr (.inr (va_up f k (some (X j))))))))) → va_S A s.heap H1 locs1 → W p l e R s m args below meth c H1 locs1 kc ks Q (F0 m (pc + 1) ls rest)) : W p l e R s m args below meth c H locs kc ks Q (F0 m pc ls (.ref (X j) :: .int i :: .ref a :: rest)) := by
  obtain ⟨cell, h1, h2, h3⟩ := bq_srcv hstr hm hj hS
  obtain ⟨kC, hkC, -⟩ := Vm.findClass_spec h3
  refine va_astqM (E := "java/lang/String") hx hb hK hP hD hS q0 1 ha rfl ⟨cell, h1, h2, ⟨kC, hkC⟩, fun comp h => ?_⟩ hin hdg (fun H1 locs1 hP hD hS => ?_)
  · have e : comp = cell.cls := Option.some.inj (h.symm.trans h3)
    rw [e]
    exact va_asg _ _
  · rw [hk] at hP hD
    exact kk H1 locs1 hP hD hS
theorem bq_cSN {bs bc br : List va_W} {y : MethodName} {by' : ByteArray} {nY NF' NL' MC' MS' index n : Nat} {ret : Option FieldType} {As : List Value} (C : bq_C p R s m args meth c A D cl tys am cc nL own NF NL) (hkc : kc + MC' ≤ R.cells) (hks : ks + MS' ≤ R.slots) (hM : bq_N l y by' nY ret NF' NL' MC' MS' D cl tys am As bc.flatten Post)
    (hp1 : bs.Perm (bc ++ br))
    (hG : GoodIn lw_all (va_wsS own index y (ws_ y by' nY ret))) (hd : y.cls ≠ "java/lang/invoke/MethodHandle" ∧ y.cls ≠ "java/lang/invoke/VarHandle" ∧ (parseMethodDescriptor y.desc).map (fun d => d.parameters.length) = some n) (hNF : NF' + 1 ≤ NF) (hNL : 8 + (nY + 11) + NL' ≤ NL)
    (hn : As.length = n) (hls : ls.size = nL) (hst : st = As.reverse ++ rest) (hc8 : (rest.map fun v => v.category).sum ≤ 8) (hdg : decode cc pc = .ok (.invokestatic index, 3))
    (hP : va_P D cl bs.flatten H) (hD : va_D A bs.flatten) (hS : va_S A s.heap H locs)
    (kk : ∀ (o : Option Value) (w' : va_W), Post o w' → ∀ (H1 : Heap) (locs1 : List Loc), va_P D cl (List.flatten (w' :: br)) H1 → va_D A (List.flatten (w' :: br)) → va_S A s.heap H1 locs1 → W p l e R s m args below meth c H1 locs1 (kc + MC') (ks + MS') Q (F0 m (pc + 3) ls (o.toList ++ rest))) : W p l e R s m args below meth c H locs kc ks Q (F0 m pc ls st) := by
  have C0 := C
  obtain ⟨hx, hb, hown, hts, hml, hlocks, hA, hK, hm, hRf, hRl, hok⟩ := C
  have hp : bs.flatten.Perm (bc.flatten ++ br.flatten) := by rw [← List.flatten_append]; exact bq_flat hp1
  exact bq_finN (va_runS (As := As) (rest := rest) ⟨hx, hb, hml, hown, hts⟩ (hM H.size) (va_cwS n hts hG rfl rfl rfl hd ⟨Nat.le_trans hNF hRf, Nat.le_trans hNL hRl⟩) ⟨bq_blind hok, fun U hU hW => bq_pre C0 hP hD hS hp hU hW⟩ rfl hn hls hst (lv_room hc8) hdg ⟨hkc, hks⟩) hA hP hD hS hp kk
end BQN2
theorem bq_qcongr {cA : ClassId} {n : Nat} {f g : Nat → Option Nat} (h : ∀ j, j < n → f j = g j) : vp_cell cA (n, .inr (.inr (.inr (.inr f)))) = vp_cell cA (n, .inr (.inr (.inr (.inr g)))) := by
  rw [vp_cell_q, vp_cell_q]
  show ({ cls := cA, slots := _, vm := .none } : Cell) = ({ cls := cA, slots := _, vm := .none } : Cell)
  congr 1
  refine Array.ext_getElem? fun i => ?_
  by_cases hi : i < n
  · have h1 := arrV_read cA (fun j => va_rf (f j)) hi
    have h2 := arrV_read cA (fun j => va_rf (g j)) hi
    refine Eq.trans h1 (Eq.trans ?_ h2.symm)
    show some (va_rf (f i)) = some (va_rf (g i))
    rw [h i hi]
  · have h1 : (arrV cA n (fun j => va_rf (f j))).slots[i]? = none := Array.getElem?_eq_none (by rw [arrV_size]; omega)
    have h2 : (arrV cA n (fun j => va_rf (g j))).slots[i]? = none := Array.getElem?_eq_none (by rw [arrV_size]; omega)
    exact h1.trans h2.symm
theorem bq_swq {D : va_G} {cl : List vw_C} {bs : List va_W} {H : Heap} {cA : ClassId} {a n : Nat} {f g : Nat → Option Nat} (h : ∀ j, j < n → f j = g j) (hP : va_P D cl (List.flatten ([(a, .inl (cA, n, .inr (.inr (.inr (.inr f)))))] :: bs)) H) : va_P D cl (List.flatten ([(a, .inl (cA, n, .inr (.inr (.inr (.inr g)))))] :: bs)) H := by
  refine bq_Pm.mpr fun q hq => ?_
  rw [List.flatten_cons] at hq
  rcases List.mem_append.mp hq with hq | hq
  · have e : q = (a, (.inl (cA, n, .inr (.inr (.inr (.inr g)))) : va_E)) := by simpa using hq
    subst e
    have h1 : va_at D cl (a, (.inl (cA, n, .inr (.inr (.inr (.inr f)))) : va_E)) H := bq_Pm.mp hP _ (by rw [List.flatten_cons]; exact List.mem_append_left _ (by simp))
    have h2 : H[a]? = some (vp_cell cA (n, .inr (.inr (.inr (.inr f))))) := h1
    show H[a]? = some (vp_cell cA (n, .inr (.inr (.inr (.inr g)))))
    rw [h2, bq_qcongr h]
  · exact bq_Pm.mp hP q (by rw [List.flatten_cons]; exact List.mem_append_right _ hq)
theorem bq_swqD {A : Nat → Prop} {bs : List va_W} {x y : Nat × va_E} (h : x.1 = y.1) (hD : va_D A (List.flatten ([x] :: bs))) : va_D A (List.flatten ([y] :: bs)) := by
  have h1 := bq_Dn.mp hD
  refine bq_Dn.mpr ⟨?_, fun q hq => ?_⟩
  · have e : (List.flatten ([y] :: bs)).map Prod.fst = (List.flatten ([x] :: bs)).map Prod.fst := by simp [List.flatten_cons, h]
    rw [e]
    exact h1.1
  · rw [List.flatten_cons] at hq
    rcases List.mem_append.mp hq with hq | hq
    · have e : q = y := by simpa using hq
      subst e
      rw [← h]
      exact h1.2 x (by rw [List.flatten_cons]; exact List.mem_append_left _ (by simp))
    · exact h1.2 q (by rw [List.flatten_cons]; exact List.mem_append_right _ hq)
