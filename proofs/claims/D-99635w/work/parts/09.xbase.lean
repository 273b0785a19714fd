/-! methods that may throw: one answer, or one exception by its number -/
set_option maxRecDepth 100000
def bq_ex (tg : Nat) : String := if tg = 1 then "java/util/NoSuchElementException" else if tg = 2 then "java/lang/IllegalArgumentException" else "BlueBag$Fault"
def bq_QX (D : va_G) (cl : List vw_C) (tg : Nat) (o : Option Value) (w' : va_W) (A : Nat → Prop) : Array Value → State → Outcome → State → Prop := fun _ st oc t => tg = 0 ∧ (oc = .returned o ∧ va_P D cl w' t.heap ∧ va_D A w') ∧ va_F A st t
def bq_XX (D : va_G) (cl : List vw_C) (tg : Nat) (w' : va_W) (A : Nat → Prop) : String → State → State → Prop := fun E st t => tg ≠ 0 ∧ E = bq_ex tg ∧ (va_P D cl w' t.heap ∧ va_D A w') ∧ va_F A st t
def bq_X (l : Launch) (y : MethodName) (b : ByteArray) (nL : Nat) (ret : Option FieldType) (NF NL MC MS : Nat) (D : va_G) (cl : List vw_C) (tys : List (ClassId × FieldType)) (am : bqAm) (args : List Value) (w : va_W) (tg : Nat) (o : Option Value) (w' : va_W) : Prop :=
  ∀ sz : Nat, vx_Met l y (ws_ y b nL ret) { frames := NF, cells := MC, slots := MS, locals := NL } (bq_P D cl tys am args w sz) (bq_QX D cl tg o w' (va_A w sz)) (bq_XX D cl tg w' (va_A w sz)) MC MS (va_A w sz)
theorem bq_ofX {l : Launch} {y : MethodName} {b : ByteArray} {nL : Nat} {ret : Option FieldType} {NF NL MC MS : Nat} {D : va_G} {cl : List vw_C} {tys : List (ClassId × FieldType)} {am : bqAm} {args : List Value} {w : va_W} {tg : Nat} {o : Option Value} {w' : va_W} (hok : bq_Ok am) (hy : plainName y.cls = true) (hn : (lg_sl args).length ≤ nL)
    (body : ∀ (p : Program) (e : Env) (s : State) (m : MethodId) (below : List Frame) (meth : Method) (c : Code) (A : Nat → Prop) (ls : Array Slot), bq_C p { frames := NF, cells := MC, slots := MS, locals := NL } s m args.toArray meth c A D cl tys am b nL y.cls NF NL → meth.sig.returnType = ret → (∀ x ∈ c.exceptionTable.toList, False) → va_P D cl w s.heap → va_D A w → va_S A s.heap s.heap [] → lv_has ls nL (lv_args 0 args) →
      W p l e { frames := NF, cells := MC, slots := MS, locals := NL } s m args.toArray below meth c s.heap [] 0 0 (vx_MQ below (bq_QX D cl tg o w' A) (bq_XX D cl tg w' A) args.toArray s MC MS A) (F0 m 0 ls [])) : bq_X l y b nL ret NF NL MC MS D cl tys am args w tg o w' := by
  intro sz
  refine vx_ofW (cc := b) (maxL := nL) (ret := ret) hy rfl ?_
  intro p e s m args' below meth c s₁ B hml hex hv
  obtain ⟨rfl, hsz, hP, hK, hD0, hm⟩ := hv
  have hts := atoms_spec (ws := ws_ y b nL ret) B.pre
  have hts : ∀ w ∈ lw_all, w.before _ s = true := fun w h => hts w (List.mem_cons_of_mem _ h)
  have hown : s.vm.findClass y.cls = some m.cls := findClass_of_methodNamed B.named
  subst hsz
  have hl := lv_entry args (n := nL) hn
  rw [lg_entry_eq]
  exact body p e s m below meth c _ _ ⟨B.exec, B.bytes, hown, hts, hml, B.notSynchronized, fun q h => Or.inr h, hK, hm, Nat.le_refl _, Nat.le_refl _, hok⟩ B.returns hex hP hD0.self va_S.rf hl
section BQX
variable {p : Program} {l : Launch} {e : Env} {R : Room} {s : State} {m : MethodId} {args : Array Value} {below : List Frame} {meth : Method} {c : Code} {H : Heap} {locs : List Loc} {Q : State → Prop} {A : Nat → Prop} {D : va_G} {cl : List vw_C} {tys : List (ClassId × FieldType)} {am : bqAm} {cc : ByteArray} {nL NF NL pc kc ks MC MS tg : Nat} {own : String} {ls : Array Slot} {rest st : List Value} {o : Option Value} {w w' wr W0 w0' : va_W}
theorem bq_iretX {v : Int32} (C : bq_C p R s m args meth c A D cl tys am cc nL own NF NL) (hr : meth.sig.returnType = some .int) (h1 : kc ≤ MC) (h2 : ks ≤ MS) (hP : va_P D cl w H) (hD : va_D A w) (hS : va_S A s.heap H locs) (hdg : decode cc pc = .ok (.ireturn, 1)) :
    W p l e R s m args below meth c H locs kc ks (vx_MQ below (bq_QX D cl 0 (some (.int v)) w A) (bq_XX D cl 0 w A) args s MC MS A) (F0 m pc ls [.int v]) := by
  obtain ⟨hx, hb, hown, hts, hml, hlocks, hA, hK, hm, -, -, -⟩ := C
  exact W.widen h1 h2 (vx_ret (W.iret hx hb hr (fun t ht hW => ⟨rfl, ⟨rfl, by rw [ht]; exact hP, hD⟩, hS.F ht⟩) hS.2.2 hdg hlocks))
theorem bq_zretX {v : Int32} (C : bq_C p R s m args meth c A D cl tys am cc nL own NF NL) (hr : meth.sig.returnType = some .boolean) (h1 : kc ≤ MC) (h2 : ks ≤ MS) (hv : v = 0 ∨ v = 1) (hP : va_P D cl w H) (hD : va_D A w) (hS : va_S A s.heap H locs) (hdg : decode cc pc = .ok (.ireturn, 1)) :
    W p l e R s m args below meth c H locs kc ks (vx_MQ below (bq_QX D cl 0 (some (.int v)) w A) (bq_XX D cl 0 w A) args s MC MS A) (F0 m pc ls [.int v]) := by
  obtain ⟨hx, hb, hown, hts, hml, hlocks, hA, hK, hm, -, -, -⟩ := C
  exact W.widen h1 h2 (vx_ret (W.zret hx hb hr (bq_nar hv) (fun t ht hW => ⟨rfl, ⟨rfl, by rw [ht]; exact hP, hD⟩, hS.F ht⟩) hS.2.2 hdg hlocks))
theorem bq_vretX (C : bq_C p R s m args meth c A D cl tys am cc nL own NF NL) (hr : meth.sig.returnType = none) (h1 : kc ≤ MC) (h2 : ks ≤ MS) (hP : va_P D cl w H) (hD : va_D A w) (hS : va_S A s.heap H locs) (hdg : decode cc pc = .ok (.return_, 1)) :
    W p l e R s m args below meth c H locs kc ks (vx_MQ below (bq_QX D cl 0 none w A) (bq_XX D cl 0 w A) args s MC MS A) (F0 m pc ls []) := by
  obtain ⟨hx, hb, hown, hts, hml, hlocks, hA, hK, hm, -, -, -⟩ := C
  exact W.widen h1 h2 (vx_ret (W.vret hx hb hr (fun t ht hW => ⟨rfl, ⟨rfl, by rw [ht]; exact hP, hD⟩, hS.F ht⟩) hS.2.2 hdg hlocks))
theorem bq_aretX {q : Nat} {cn : String} (C : bq_C p R s m args meth c A D cl tys am cc nL own NF NL) (hr : meth.sig.returnType = some (.object cn)) (h1 : kc ≤ MC) (h2 : ks ≤ MS) (hP : va_P D cl w H) (hD : va_D A w) (hS : va_S A s.heap H locs) (hdg : decode cc pc = .ok (.areturn, 1)) :
    W p l e R s m args below meth c H locs kc ks (vx_MQ below (bq_QX D cl 0 (some (.ref q)) w A) (bq_XX D cl 0 w A) args s MC MS A) (F0 m pc ls [.ref q]) := by
  obtain ⟨hx, hb, hown, hts, hml, hlocks, hA, hK, hm, -, -, -⟩ := C
  exact W.widen h1 h2 (vx_ret (W.aret hx hb hr (Or.inl ⟨_, rfl⟩) (Or.inr ⟨_, rfl⟩) (fun t ht hW => ⟨rfl, ⟨rfl, by rw [ht]; exact hP, hD⟩, hS.F ht⟩) hS.2.2 hdg hlocks))
/-- what stands where an exception has come up: the world, the new cell -/
def bq_Thr (s : State) (A : Nat → Prop) (D : va_G) (cl : List vw_C) (tg : Nat) (w : va_W) (H : Heap) (locs : List Loc) (q : Addr) : Prop :=
  va_P D cl w H ∧ va_D A w ∧ va_S A s.heap H locs ∧ ∃ ce : Cell, H[q]? = some ce ∧ ce.vm = .none ∧ s.vm.findClass (bq_ex tg) = some ce.cls
/-- it goes on to the caller -/
theorem bq_prop (C : bq_C p R s m args meth c A D cl tys am cc nL own NF NL) (hex : ∀ x ∈ c.exceptionTable.toList, False) (ht : tg ≠ 0) (h1 : kc ≤ MC) (h2 : ks ≤ MS) : ∀ (H : Heap) (locs : List Loc) (q : Addr), bq_Thr s A D cl tg w H locs q →
    vx_W p l e R s m args below meth c H locs kc ks (vx_MQ below (bq_QX D cl tg o w A) (bq_XX D cl tg w A) args s MC MS A) (F0 m pc ls rest) q := by
  intro H locs q hT
  obtain ⟨hx, hb, hown, hts, hml, hlocks, hA, hK, hm, -, -, -⟩ := C
  obtain ⟨hP, hD, hS, ce, hce, hcv, hcl⟩ := hT
  exact vx_out (fun x hx => (hex x hx).elim) hlocks hce hcv hcl (fun t ht' _ => ⟨ht, rfl, ⟨by rw [ht']; exact hP, hD⟩, hS.F ht'⟩) hS.2.2 h1 h2
theorem bq_finX {MC' MS' : Nat} {a : Array Value} (hr : vx_Run p l e R s m args below meth c H locs kc ks MC' MS' (F0 m pc ls st) rest (bq_QX D cl tg o w' (va_A w H.size) a) (bq_XX D cl tg w' (va_A w H.size)) (va_A w H.size)) (hA : ∀ q : Nat, s.heap.size ≤ q → A q) (hP : va_P D cl W0 H) (hD : va_D A W0) (hS : va_S A s.heap H locs) (hp : W0.Perm (w ++ wr)) (hq : (w' ++ wr).Perm w0')
    (kk : tg = 0 → ∀ (H1 : Heap) (locs1 : List Loc), va_P D cl w0' H1 → va_D A w0' → va_S A s.heap H1 locs1 → W p l e R s m args below meth c H1 locs1 (kc + MC') (ks + MS') Q (F0 m (pc + 3) ls (o.toList ++ rest)))
    (kx : tg ≠ 0 → ∀ (H1 : Heap) (locs1 : List Loc) (q : Addr), bq_Thr s A D cl tg w0' H1 locs1 q → vx_W p l e R s m args below meth c H1 locs1 (kc + MC') (ks + MS') Q (F0 m pc ls rest) q) : W p l e R s m args below meth c H locs kc ks Q (F0 m pc ls st) := by
  have hF := bq_free hD hS hA hp
  intro T hT X
  rcases hr T hT X with ⟨v, st₀, t, T', L, h0, X', hL, e1, e2, ⟨htg, ⟨hv, hP1, hD1⟩, hz, hk⟩, stp⟩ | ⟨q, st₀, t, T', L, E, ce, h0, X', hL, e1, e2, ⟨htg, hE, ⟨hP1, hD1⟩, hz, hk⟩, hce, hcv, hcl, stp⟩
  · cases hv
    rw [h0] at hz hk
    rw [← e1] at hP1 hz hk
    obtain ⟨hP2, hD2⟩ := bq_join hP hD hp hk hF hP1 hD1
    obtain ⟨t2, a1, b1⟩ := kk htg T'.heap (locs ++ L) (bq_Pp hq hP2) (bq_Dp hq hD2)
      ⟨Nat.le_trans hS.1 hz, fun q h1 h2 => by rw [hk q (Nat.lt_of_lt_of_le h1 hS.1) (fun z => h2 (hF q z))]; exact hS.2.1 q h1 h2, fun q hq => by
        rcases List.mem_append.mp hq with h | h
        · exact hS.2.2 q h
        · exact hF _ (hL q h)⟩ T' rfl X'
    exact ⟨t2, stp t2 a1, b1⟩
  · rw [h0] at hz hk
    rw [← e1] at hP1 hz hk hce
    obtain ⟨hP2, hD2⟩ := bq_join hP hD hp hk hF hP1 hD1
    subst hE
    obtain ⟨t2, a1, b1⟩ := kx htg T'.heap (locs ++ L) q ⟨bq_Pp hq hP2, bq_Dp hq hD2,
      ⟨Nat.le_trans hS.1 hz, fun q h1 h2 => by rw [hk q (Nat.lt_of_lt_of_le h1 hS.1) (fun z => h2 (hF q z))]; exact hS.2.1 q h1 h2, fun q hq => by
        rcases List.mem_append.mp hq with h | h
        · exact hS.2.2 q h
        · exact hF _ (hL q h)⟩, ce, hce, hcv, hcl⟩ T' rfl X'
    exact ⟨t2, stp.trans a1, b1⟩
theorem bq_cVX {bs bc br bc' bs' : List va_W} {y : MethodName} {cn : String} {by' : ByteArray} {nY NF' NL' MC' MS' index n : Nat} {ret : Option FieldType} {b : Nat} {As : List Value} (C : bq_C p R s m args meth c A D cl tys am cc nL own NF NL) (hkc : kc + MC' ≤ R.cells) (hks : ks + MS' ≤ R.slots) (hM : bq_X l y by' nY ret NF' NL' MC' MS' D cl tys am (.ref b :: As) bc.flatten tg o bc'.flatten)
    (hp1 : bs.Perm (bc ++ br)) (hp2 : (bc' ++ br).Perm bs')
    (hG : GoodIn lw_all (wsV own index cn y (ws_ y by' nY ret))) (hd : y.cls = cn ∧ y.cls ≠ "java/lang/invoke/MethodHandle" ∧ y.cls ≠ "java/lang/invoke/VarHandle" ∧ (parseMethodDescriptor y.desc).map (fun d => d.parameters.length) = some n) (hNF : NF' + 1 ≤ NF) (hNL : 8 + (nY + 11) + NL' ≤ NL)
    (hrv : ∃ cellB : Cell, H[b]? = some cellB ∧ cellB.vm.isStatics = false ∧ s.vm.findClass cn = some cellB.cls) (hn : As.length = n) (hls : ls.size = nL) (hst : st = As.reverse ++ .ref b :: rest) (hc8 : (rest.map fun v => v.category).sum ≤ 8) (hdg : decode cc pc = .ok (.invokevirtual index, 3))
    (hP : va_P D cl bs.flatten H) (hD : va_D A bs.flatten) (hS : va_S A s.heap H locs)
    (kk : tg = 0 → ∀ (H1 : Heap) (locs1 : List Loc), va_P D cl bs'.flatten H1 → va_D A bs'.flatten → va_S A s.heap H1 locs1 → W p l e R s m args below meth c H1 locs1 (kc + MC') (ks + MS') Q (F0 m (pc + 3) ls (o.toList ++ rest)))
    (kx : tg ≠ 0 → ∀ (H1 : Heap) (locs1 : List Loc) (q : Addr), bq_Thr s A D cl tg bs'.flatten H1 locs1 q → vx_W p l e R s m args below meth c H1 locs1 (kc + MC') (ks + MS') Q (F0 m pc ls rest) q) : W p l e R s m args below meth c H locs kc ks Q (F0 m pc ls st) := by
  have C0 := C
  obtain ⟨hx, hb, hown, hts, hml, hlocks, hA, hK, hm, hRf, hRl, hok⟩ := C
  have hp : bs.flatten.Perm (bc.flatten ++ br.flatten) := by rw [← List.flatten_append]; exact bq_flat hp1
  have hq : (bc'.flatten ++ br.flatten).Perm bs'.flatten := by rw [← List.flatten_append]; exact bq_flat hp2
  exact bq_finX (vx_runV (As := As) (rest := rest) ⟨hx, hb, hml, hown, hts⟩ (hM H.size) (cwV n hts hG rfl rfl rfl hd ⟨Nat.le_trans hNF hRf, Nat.le_trans hNL hRl⟩) ⟨bq_blind hok, hrv, fun U hU hW => bq_pre C0 hP hD hS hp hU hW⟩ rfl hn hls hst (lv_room hc8) hdg ⟨hkc, hks⟩) hA hP hD hS hp hq kk kx
theorem bq_cSX {bs bc br bc' bs' : List va_W} {y : MethodName} {by' : ByteArray} {nY NF' NL' MC' MS' index n : Nat} {ret : Option FieldType} {As : List Value} (C : bq_C p R s m args meth c A D cl tys am cc nL own NF NL) (hkc : kc + MC' ≤ R.cells) (hks : ks + MS' ≤ R.slots) (hM : bq_X l y by' nY ret NF' NL' MC' MS' D cl tys am As bc.flatten tg o bc'.flatten)
    (hp1 : bs.Perm (bc ++ br)) (hp2 : (bc' ++ br).Perm bs')
    (hG : GoodIn lw_all (va_wsS own index y (ws_ y by' nY ret))) (hd : y.cls ≠ "java/lang/invoke/MethodHandle" ∧ y.cls ≠ "java/lang/invoke/VarHandle" ∧ (parseMethodDescriptor y.desc).map (fun d => d.parameters.length) = some n) (hNF : NF' + 1 ≤ NF) (hNL : 8 + (nY + 11) + NL' ≤ NL)
    (hn : As.length = n) (hls : ls.size = nL) (hst : st = As.reverse ++ rest) (hc8 : (rest.map fun v => v.category).sum ≤ 8) (hdg : decode cc pc = .ok (.invokestatic index, 3))
    (hP : va_P D cl bs.flatten H) (hD : va_D A bs.flatten) (hS : va_S A s.heap H locs)
    (kk : tg = 0 → ∀ (H1 : Heap) (locs1 : List Loc), va_P D cl bs'.flatten H1 → va_D A bs'.flatten → va_S A s.heap H1 locs1 → W p l e R s m args below meth c H1 locs1 (kc + MC') (ks + MS') Q (F0 m (pc + 3) ls (o.toList ++ rest)))
    (kx : tg ≠ 0 → ∀ (H1 : Heap) (locs1 : List Loc) (q : Addr), bq_Thr s A D cl tg bs'.flatten H1 locs1 q → vx_W p l e R s m args below meth c H1 locs1 (kc + MC') (ks + MS') Q (F0 m pc ls rest) q) : W p l e R s m args below meth c H locs kc ks Q (F0 m pc ls st) := by
  have C0 := C
  obtain ⟨hx, hb, hown, hts, hml, hlocks, hA, hK, hm, hRf, hRl, hok⟩ := C
  have hp : bs.flatten.Perm (bc.flatten ++ br.flatten) := by rw [← List.flatten_append]; exact bq_flat hp1
  have hq : (bc'.flatten ++ br.flatten).Perm bs'.flatten := by rw [← List.flatten_append]; exact bq_flat hp2
  exact bq_finX (vx_runS (As := As) (rest := rest) ⟨hx, hb, hml, hown, hts⟩ (hM H.size) (va_cwS n hts hG rfl rfl rfl hd ⟨Nat.le_trans hNF hRf, Nat.le_trans hNL hRl⟩) ⟨bq_blind hok, fun U hU hW => bq_pre C0 hP hD hS hp hU hW⟩ rfl hn hls hst (lv_room hc8) hdg ⟨hkc, hks⟩) hA hP hD hS hp hq kk kx
end BQX
