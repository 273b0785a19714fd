set_option maxRecDepth 100000
/-! all that the worlds are made of: the object tables, the arrays' kinds, the texts -/
abbrev bqCl : List vw_C := [(RX7, TX7, 64), (RX1, TX1, 14), (RX2, TX2, 11), (RX3, TX3, 1), (RX5, TX5, 8), (RX6, TX6, 10), (RX8, TX8, 12), (RX9, TX9, 8), (RX11, TX11, 1), (RX12, TX12, 1), (RX13, TX13, 3), (RX14, TX14, 1), (RX15, TX15, 2), (RX16, TX16, 2), (RJ2, TJ2, 3), (RJ9, TJ9, 4), (RJ8, TJ8, 4), (RJ19, TJ19, 6), (RJ6, TJ6, 6)]
abbrev bqTy (d : Nat → ClassId) : List (ClassId × FieldType) := [(d 0, .int), (d 1, .object "java/lang/String"), (d 2, .byte), (d 3, .boolean), (d 4, .long), (d 5, .object "java/lang/Object"), (d 6, .object "BlueBag$Value")]
/-- the texts: 0='' 1=' > ' 2='(' 3=')' 4='*' 5='+' 6='-' 7='/' 8=';' 9='<' 10='=' 11='Illegal Capacity: ' 12='and' 13='beside' 14='blue' 15='bound' 16='day' 17='dyes' 18='fades' 19='girl' 20='knobs' 21='left' 22='not' 23='old' 24='or' 25='peg' 26='rinse' 27='row' 28='skill' 29='sky' -/
def bqNS : Nat := 30
def bqSBs : List (List Int32) := [[], [32, 62, 32], [40], [41], [42], [43], [45], [47], [59], [60], [61], [73, 108, 108, 101, 103, 97, 108, 32, 67, 97, 112, 97, 99, 105, 116, 121, 58, 32], [97, 110, 100], [98, 101, 115, 105, 100, 101], [98, 108, 117, 101], [98, 111, 117, 110, 100], [100, 97, 121], [100, 121, 101, 115], [102, 97, 100, 101, 115], [103, 105, 114, 108], [107, 110, 111, 98, 115], [108, 101, 102, 116], [110, 111, 116], [111, 108, 100], [111, 114], [112, 101, 103], [114, 105, 110, 115, 101], [114, 111, 119], [115, 107, 105, 108, 108], [115, 107, 121]]
def bqSL (j : Nat) : Nat := (bqSBs.getD j []).length
def bqSB (j k : Nat) : Int32 := (bqSBs.getD j []).getD k 0
def bqLd : List (String × Nat × String × Nat) := [("BlueBag$Reader", 9, "", 0), ("BlueBag$Reader", 153, "old", 23), ("BlueBag$Reader", 168, "sky", 29), ("BlueBag$Reader", 177, "knobs", 20), ("BlueBag$Reader", 181, "rinse", 26), ("BlueBag$Reader", 185, "bound", 15), ("BlueBag$Reader", 189, "dyes", 17), ("BlueBag$Reader", 202, "fades", 18), ("BlueBag$Reader", 215, ";", 8), ("BlueBag$Reader", 221, "blue", 14), ("BlueBag$Reader", 224, "peg", 25), ("BlueBag$Reader", 228, "girl", 19), ("BlueBag$Reader", 244, "(", 2), ("BlueBag$Reader", 249, "or", 24), ("BlueBag$Reader", 259, "and", 12), ("BlueBag$Reader", 260, "not", 22), ("BlueBag$Reader", 264, "<", 9), ("BlueBag$Reader", 266, "=", 10), ("BlueBag$Reader", 280, "+", 5), ("BlueBag$Reader", 282, "-", 6), ("BlueBag$Reader", 287, "*", 4), ("BlueBag$Reader", 289, "/", 7), ("BlueBag$Reader", 294, ")", 3), ("BlueBag$Reader", 307, "beside", 13), ("BlueBag$Reader", 312, "row", 27), ("BlueBag$Reader", 317, "day", 16), ("BlueBag$Reader", 322, "skill", 28), ("BlueBag$Reader", 324, "left", 21), ("BlueBagModel", 11, "girl", 19), ("BlueBagModel", 13, "old", 23), ("BlueBagModel", 19, "blue", 14), ("BlueBagModel", 21, "beside", 13), ("BlueBagModel", 23, "row", 27), ("BlueBagModel", 25, "day", 16), ("BlueBagModel", 27, "skill", 28), ("BlueBagModel", 29, "left", 21), ("BlueBagModel", 265, "not", 22), ("BlueBagModel", 273, "and", 12), ("BlueBagModel", 278, "or", 24), ("BlueBagModel", 293, "sky", 29), ("BlueBagModel", 295, "knobs", 20), ("BlueBagModel", 296, "rinse", 26), ("BlueBagModel", 298, "bound", 15), ("BlueBagModel", 300, "dyes", 17), ("BlueBagModel", 302, "fades", 18), ("BlueBagModel", 313, "peg", 25), ("java/util/ArrayList", 23, "Illegal Capacity: ", 11), ("java/util/Arrays", 337, " > ", 1)]
def bq_slen (j : Nat) : Int32 := Int32.ofNat (bqSL j)
def bq_schr (j k : Nat) : Int32 := bqSB j k
def bqSN (q : Nat) : Nat := ([0, 2, 6, 4] : List Nat).getD q 0
def bqSA (q k : Nat) : Nat := (([[], [19, 23], [14, 13, 27, 16, 28, 21], [14, 13, 27, 16]] : List (List Nat)).getD q []).getD k 0
theorem bqSA_lt (q k : Nat) : bqSA q k < bqNS := by
  unfold bqSA
  rcases q with _ | _ | _ | _ | q <;> (try (simp [bqNS]; done)) <;> rcases k with _ | _ | _ | _ | _ | _ | k <;> simp [bqNS]
def bq_q3 {α : Type} (q : Nat) (k : Option α) : Option α := if q = 1 ∨ q = 2 ∨ q = 3 then k else none
theorem bq_q3s {α : Type} {q : Nat} {k : Option α} {r : α} (h : bq_q3 q k = some r) : (q = 1 ∨ q = 2 ∨ q = 3) ∧ k = some r := by
  unfold bq_q3 at h
  split at h
  · rename_i hc
    exact ⟨hc, h⟩
  · cases h
theorem bq_p2 {T0 T1 : Type} {a0 : T0} {a1 : T1} {b0 : T0} {b1 : T1} (h : some (a0, a1) = some (b0, b1)) : a0 = b0 ∧ a1 = b1 := by
  cases h
  exact ⟨rfl, rfl⟩
theorem bq_p3 {T0 T1 T2 : Type} {a0 : T0} {a1 : T1} {a2 : T2} {b0 : T0} {b1 : T1} {b2 : T2} (h : some (a0, a1, a2) = some (b0, b1, b2)) : a0 = b0 ∧ a1 = b1 ∧ a2 = b2 := by
  cases h
  exact ⟨rfl, rfl, rfl⟩
theorem bq_p4 {T0 T1 T2 T3 : Type} {a0 : T0} {a1 : T1} {a2 : T2} {a3 : T3} {b0 : T0} {b1 : T1} {b2 : T2} {b3 : T3} (h : some (a0, a1, a2, a3) = some (b0, b1, b2, b3)) : a0 = b0 ∧ a1 = b1 ∧ a2 = b2 ∧ a3 = b3 := by
  cases h
  exact ⟨rfl, rfl, rfl, rfl⟩
theorem bq_p5 {T0 T1 T2 T3 T4 : Type} {a0 : T0} {a1 : T1} {a2 : T2} {a3 : T3} {a4 : T4} {b0 : T0} {b1 : T1} {b2 : T2} {b3 : T3} {b4 : T4} (h : some (a0, a1, a2, a3, a4) = some (b0, b1, b2, b3, b4)) : a0 = b0 ∧ a1 = b1 ∧ a2 = b2 ∧ a3 = b3 ∧ a4 = b4 := by
  cases h
  exact ⟨rfl, rfl, rfl, rfl, rfl⟩
theorem bq_p6 {T0 T1 T2 T3 T4 T5 : Type} {a0 : T0} {a1 : T1} {a2 : T2} {a3 : T3} {a4 : T4} {a5 : T5} {b0 : T0} {b1 : T1} {b2 : T2} {b3 : T3} {b4 : T4} {b5 : T5} (h : some (a0, a1, a2, a3, a4, a5) = some (b0, b1, b2, b3, b4, b5)) : a0 = b0 ∧ a1 = b1 ∧ a2 = b2 ∧ a3 = b3 ∧ a4 = b4 ∧ a5 = b5 := by
  cases h
  exact ⟨rfl, rfl, rfl, rfl, rfl, rfl⟩
theorem bq_p7 {T0 T1 T2 T3 T4 T5 T6 : Type} {a0 : T0} {a1 : T1} {a2 : T2} {a3 : T3} {a4 : T4} {a5 : T5} {a6 : T6} {b0 : T0} {b1 : T1} {b2 : T2} {b3 : T3} {b4 : T4} {b5 : T5} {b6 : T6} (h : some (a0, a1, a2, a3, a4, a5, a6) = some (b0, b1, b2, b3, b4, b5, b6)) : a0 = b0 ∧ a1 = b1 ∧ a2 = b2 ∧ a3 = b3 ∧ a4 = b4 ∧ a5 = b5 ∧ a6 = b6 := by
  cases h
  exact ⟨rfl, rfl, rfl, rfl, rfl, rfl, rfl⟩
theorem bq_inc {n : Int} {k x v : Int32} (h : Int32.ofInt n = k) (e : v = x + k) : x + Int32.ofInt n = v := by rw [h, e]
theorem bq_tout {x : Int32} {lo hi : Int} {n : Nat} (hn : lo + n = hi + 1) (h : ∀ k : Nat, k < n → ¬ x.toInt = lo + k) : x.toInt < lo ∨ hi < x.toInt := by
  by_cases h1 : x.toInt < lo
  · exact Or.inl h1
  · refine Or.inr ?_
    by_cases h2 : (x.toInt - lo).toNat < n
    · exact absurd (by omega) (h _ h2)
    · omega
/-- an int array in a world that hangs on a state: cell q of it holds the state's row k -/
def bq_ar (Wf : bqS → va_W) (q k n : Nat) (t : ClassId) (a : Nat) : Prop := ∀ σ : bqS, (Wf σ)[q]? = some (a, .inl (t, n, .inl (σ k))) ∧ ∀ f : Nat → Int32, (Wf σ).set q (a, .inl (t, n, .inl f)) = Wf (va_up σ k f)
section BQ2
variable {p : Program} {l : Launch} {e : Env} {R : Room} {s : State} {m : MethodId} {args : Array Value} {below : List Frame} {meth : Method} {c : Code} {H H0 : Heap} {locs : List Loc} {Q : State → Prop} {A : Nat → Prop} {D : va_G} {cl : List vw_C} {tys : List (ClassId × FieldType)} {am : bqAm} {cc : ByteArray} {nL NF NL pc cells slots : Nat} {own : String} {ls : Array Slot} {rest st : List Value} {o : Option Value} {w w' : va_W} {Wf : bqS → va_W} {q k n a j : Nat} {t : ClassId} {σ : bqS}
theorem bq_iald (hx : p.tables.exec = Jvm.exec) (hb : c.code = cc) (hK : va_K D cl tys s) (hP : va_P D cl (Wf σ) H) (hq : bq_ar Wf q k n t a) (ht : tys[0]? = some (t, .int)) {i : Int32} (hin : vp_in i n) (hj : i.toNatClampNeg = j) (hdg : decode cc pc = .ok (.iaload, 1))
    (kk : W p l e R s m args below meth c H locs cells slots Q (F0 m (pc + 1) ls (.int (σ k j) :: rest))) : W p l e R s m args below meth c H locs cells slots Q (F0 m pc ls (.int i :: .ref a :: rest)) :=
  va_iald hx hb hK hP q 0 (hq σ).1 ht hin hdg (by rw [hj]; exact kk)
theorem bq_iast (hx : p.tables.exec = Jvm.exec) (hb : c.code = cc) (hK : va_K D cl tys s) (hP : va_P D cl (Wf σ) H) (hD : va_D A (Wf σ)) (hS : va_S A H0 H locs) (hq : bq_ar Wf q k n t a) (ht : tys[0]? = some (t, .int)) {i x : Int32} (hin : vp_in i n) (hj : i.toNatClampNeg = j) (hdg : decode cc pc = .ok (.iastore, 1))
    (kk : ∀ (H1 : Heap) (locs1 : List Loc), va_P D cl (Wf (bq_up σ k j x)) H1 → va_D A (Wf (bq_up σ k j x)) → va_S A H0 H1 locs1 → W p l e R s m args below meth c H1 locs1 cells slots Q (F0 m (pc + 1) ls rest)) : W p l e R s m args below meth c H locs cells slots Q (F0 m pc ls (.int x :: .int i :: .ref a :: rest)) := by
  refine va_iast hx hb hK hP hD hS q 0 (hq σ).1 ht hin hdg (fun H1 locs1 hP hD hS => ?_)
  rw [hj, (hq σ).2] at hP hD
  exact kk H1 locs1 hP hD hS
theorem va_ldcSw (hexec : p.tables.exec = Jvm.exec) (hb : c.code = cc) {own tx : String} {index q : Nat} (hown : s.vm.findClass own = some m.cls) (hZ : vk_R own index tx q s) (hdg : decode cc pc = .ok (.ldc_w index, 3))
    (k : W p l e R s m args below meth c H locs cells slots Q (F0 m (pc + 3) ls (.ref q :: rest))) : W p l e R s m args below meth c H locs cells slots Q (F0 m pc ls rest) := by
  intro T hT X
  obtain ⟨t, a1, b1⟩ := k T hT X
  refine ⟨t, ?_, b1⟩
  obtain ⟨kc, cf, i, a', hk, hcf, hcp, -, hr, hev'⟩ := Cond.stringRef_spec hown hZ.1
  cases hZ.2.symm.trans hev'
  obtain ⟨k', hk', he⟩ := X.warmed.alike.2.2 _ _ hk
  have hr' : k'.resolved[index]? = some (some (.string q)) := by
    rcases X.warmed.entry hk hk' index with h | ⟨h, -⟩
    · rw [h]; exact hr
    · rw [hr] at h; cases h
  have hdg' : decode c.code pc = .ok (.ldc_w index, 3) := by rw [hb]; exact hdg
  jvm_step X.here [hexec, hdg', ldc_w.wp_string (e := e) (s := T) (f := F0 m pc ls rest) X.here.top hk' (by rw [he]; exact hcf) hcp hr']
  exact a1
theorem bq_alen (hx : p.tables.exec = Jvm.exec) (hb : c.code = cc) (hK : va_K D cl tys s) (hP : va_P D cl (Wf σ) H) (hq : bq_ar Wf q k n t a) (ht : tys[0]? = some (t, .int)) {v : Int32} (hv : Int32.ofNat n = v) (hdg : decode cc pc = .ok (.arraylength, 1))
    (kk : W p l e R s m args below meth c H locs cells slots Q (F0 m (pc + 1) ls (.int v :: rest))) : W p l e R s m args below meth c H locs cells slots Q (F0 m pc ls (.ref a :: rest)) :=
  va_alen hx hb hK hP q 0 (hq σ).1 ht hv hdg kk
theorem bq_callVi {y : MethodName} {cn : String} {by' : ByteArray} {nY NF' NL' index n : Nat} {ret : Option FieldType} {b : Nat} {As : List Value} {r : Int32} (C : bq_C p R s m args meth c A D cl tys am cc nL own NF NL) (hM : bq_M l y by' nY ret NF' NL' D cl tys am (.ref b :: As) w (some (.int r)) w')
    (hG : GoodIn lw_all (wsV own index cn y (ws_ y by' nY ret))) (hd : y.cls = cn ∧ y.cls ≠ "java/lang/invoke/MethodHandle" ∧ y.cls ≠ "java/lang/invoke/VarHandle" ∧ (parseMethodDescriptor y.desc).map (fun d => d.parameters.length) = some n) (hNF : NF' + 1 ≤ NF) (hNL : 8 + (nY + 11) + NL' ≤ NL)
    (hrv : ∃ cellB : Cell, H[b]? = some cellB ∧ cellB.vm.isStatics = false ∧ s.vm.findClass cn = some cellB.cls) (hn : As.length = n) (hls : ls.size = nL) (hst : st = As.reverse ++ .ref b :: rest) (hc8 : (rest.map fun v => v.category).sum ≤ 8) (hdg : decode cc pc = .ok (.invokevirtual index, 3))
    (hP : va_P D cl w H) (hD : va_D A w) (hS : va_S A s.heap H locs)
    (kk : ∀ (H1 : Heap) (locs1 : List Loc), va_P D cl w' H1 → va_D A w' → va_S A s.heap H1 locs1 → W p l e R s m args below meth c H1 locs1 0 0 Q (F0 m (pc + 3) ls (.int r :: rest))) : W p l e R s m args below meth c H locs 0 0 Q (F0 m pc ls st) :=
  bq_callV C hM hG hd hNF hNL hrv hn hls hst hc8 hdg hP hD hS bq_pn (fun H1 locs1 hP hD hS => by
    rw [List.append_nil] at hP hD
    exact kk H1 locs1 hP hD hS)
theorem bq_callVv {y : MethodName} {cn : String} {by' : ByteArray} {nY NF' NL' index n : Nat} {ret : Option FieldType} {b : Nat} {As : List Value} (C : bq_C p R s m args meth c A D cl tys am cc nL own NF NL) (hM : bq_M l y by' nY ret NF' NL' D cl tys am (.ref b :: As) w none w')
    (hG : GoodIn lw_all (wsV own index cn y (ws_ y by' nY ret))) (hd : y.cls = cn ∧ y.cls ≠ "java/lang/invoke/MethodHandle" ∧ y.cls ≠ "java/lang/invoke/VarHandle" ∧ (parseMethodDescriptor y.desc).map (fun d => d.parameters.length) = some n) (hNF : NF' + 1 ≤ NF) (hNL : 8 + (nY + 11) + NL' ≤ NL)
    (hrv : ∃ cellB : Cell, H[b]? = some cellB ∧ cellB.vm.isStatics = false ∧ s.vm.findClass cn = some cellB.cls) (hn : As.length = n) (hls : ls.size = nL) (hst : st = As.reverse ++ .ref b :: rest) (hc8 : (rest.map fun v => v.category).sum ≤ 8) (hdg : decode cc pc = .ok (.invokevirtual index, 3))
    (hP : va_P D cl w H) (hD : va_D A w) (hS : va_S A s.heap H locs)
    (kk : ∀ (H1 : Heap) (locs1 : List Loc), va_P D cl w' H1 → va_D A w' → va_S A s.heap H1 locs1 → W p l e R s m args below meth c H1 locs1 0 0 Q (F0 m (pc + 3) ls rest)) : W p l e R s m args below meth c H locs 0 0 Q (F0 m pc ls st) :=
  bq_callV C hM hG hd hNF hNL hrv hn hls hst hc8 hdg hP hD hS bq_pn (fun H1 locs1 hP hD hS => by
    rw [List.append_nil] at hP hD
    exact kk H1 locs1 hP hD hS)
theorem bq_callSi {y : MethodName} {by' : ByteArray} {nY NF' NL' index n : Nat} {ret : Option FieldType} {As : List Value} {r : Int32} (C : bq_C p R s m args meth c A D cl tys am cc nL own NF NL) (hM : bq_M l y by' nY ret NF' NL' D cl tys am As w (some (.int r)) w')
    (hG : GoodIn lw_all (va_wsS own index y (ws_ y by' nY ret))) (hd : y.cls ≠ "java/lang/invoke/MethodHandle" ∧ y.cls ≠ "java/lang/invoke/VarHandle" ∧ (parseMethodDescriptor y.desc).map (fun d => d.parameters.length) = some n) (hNF : NF' + 1 ≤ NF) (hNL : 8 + (nY + 11) + NL' ≤ NL)
    (hn : As.length = n) (hls : ls.size = nL) (hst : st = As.reverse ++ rest) (hc8 : (rest.map fun v => v.category).sum ≤ 8) (hdg : decode cc pc = .ok (.invokestatic index, 3))
    (hP : va_P D cl w H) (hD : va_D A w) (hS : va_S A s.heap H locs)
    (kk : ∀ (H1 : Heap) (locs1 : List Loc), va_P D cl w' H1 → va_D A w' → va_S A s.heap H1 locs1 → W p l e R s m args below meth c H1 locs1 0 0 Q (F0 m (pc + 3) ls (.int r :: rest))) : W p l e R s m args below meth c H locs 0 0 Q (F0 m pc ls st) :=
  bq_callS C hM hG hd hNF hNL hn hls hst hc8 hdg hP hD hS bq_pn (fun H1 locs1 hP hD hS => by
    rw [List.append_nil] at hP hD
    exact kk H1 locs1 hP hD hS)
theorem bq_callSv {y : MethodName} {by' : ByteArray} {nY NF' NL' index n : Nat} {ret : Option FieldType} {As : List Value} (C : bq_C p R s m args meth c A D cl tys am cc nL own NF NL) (hM : bq_M l y by' nY ret NF' NL' D cl tys am As w none w')
    (hG : GoodIn lw_all (va_wsS own index y (ws_ y by' nY ret))) (hd : y.cls ≠ "java/lang/invoke/MethodHandle" ∧ y.cls ≠ "java/lang/invoke/VarHandle" ∧ (parseMethodDescriptor y.desc).map (fun d => d.parameters.length) = some n) (hNF : NF' + 1 ≤ NF) (hNL : 8 + (nY + 11) + NL' ≤ NL)
    (hn : As.length = n) (hls : ls.size = nL) (hst : st = As.reverse ++ rest) (hc8 : (rest.map fun v => v.category).sum ≤ 8) (hdg : decode cc pc = .ok (.invokestatic index, 3))
    (hP : va_P D cl w H) (hD : va_D A w) (hS : va_S A s.heap H locs)
    (kk : ∀ (H1 : Heap) (locs1 : List Loc), va_P D cl w' H1 → va_D A w' → va_S A s.heap H1 locs1 → W p l e R s m args below meth c H1 locs1 0 0 Q (F0 m (pc + 3) ls rest)) : W p l e R s m args below meth c H locs 0 0 Q (F0 m pc ls st) :=
  bq_callS C hM hG hd hNF hNL hn hls hst hc8 hdg hP hD hS bq_pn (fun H1 locs1 hP hD hS => by
    rw [List.append_nil] at hP hD
    exact kk H1 locs1 hP hD hS)
end BQ2
/-- BlueBagModel: its fields, by the state -/
def tF (a X : Nat → Nat) (σ : bqS) : List Value := [.ref (a 1), .ref (a 2), .ref (a 3), .ref (a (σ 0 3).toNatClampNeg), .int (σ 0 4), .ref (a 4), .ref (a 5), .ref (a 6), .ref (a 7), .ref (a 8), .ref (a 9), .ref (a 10), .ref (a 11), .ref (a 12), .ref (a 13), .int (σ 0 15), .int (σ 0 16), .int (σ 0 17), .int (σ 0 18), .int (σ 0 19), .int (σ 0 20), .int (σ 0 21), .int (σ 0 22), .int (σ 0 23), .int (σ 0 24), .int (σ 0 25), .int (σ 0 26), .int (σ 0 27), .ref (a 14), .ref (a 15), .ref (a 16), .int (σ 0 31), .int (σ 0 32), .int (σ 0 33), .int (σ 0 34), .int (σ 0 35), .int (σ 0 36), .int (σ 0 37), .ref (a 17), .ref (a 18), .ref (a 19), .int (σ 0 41), .ref (a 20), .ref (a 21), .ref (a 22), .ref (a 23), .ref (a 24), .ref (a 25), .ref (a 26), .ref (a 27), .ref (a 28), .ref (a 29), .int (σ 0 52), .ref (a 30), .int (σ 0 54), .int (σ 0 55), .int (σ 0 56), .int (σ 0 57), .ref (a 31), .ref (a 32), .ref (a 33), .ref (a 34), .ref (a 35), .ref (a 36)]
/-- its arrays: 1=women 2=ofDyes 3=ofFades 4=told 5=blueTold 6=aged 7=skillTold 8=cellTold 9=signsDyes 10=signsFades 11=status 12=skills 13=tape 14=blue 15=where 16=past 17=asked 18=stack 19=fading 20=rowThen 21=blueThen 22=leastBy 23=goals 24=seenCell 25=seenIn 26=seenBlue 27=rowSeen 28=fits 29=bluesThen 30=gains 31=imageRow 32=pastThen 33=seenCellThen 34=seenInThen 35=seenBlueThen 36=statusThen -/
def tR (d : Nat → ClassId) (a X : Nat → Nat) (σ : bqS) : va_W := [(a 1, .inl (d 1, 2, .inr (.inr (.inr (.inr (fun k => some (X (bqSA 1 k)))))))), (a 2, .inl (d 1, 6, .inr (.inr (.inr (.inr (fun k => some (X (bqSA 2 k)))))))), (a 3, .inl (d 1, 4, .inr (.inr (.inr (.inr (fun k => some (X (bqSA 3 k)))))))), (a 4, .inl (d 0, 18, .inl (σ 4))), (a 5, .inl (d 0, 60, .inl (σ 5))), (a 6, .inl (d 0, 12, .inl (σ 6))), (a 7, .inl (d 0, 12, .inl (σ 7))), (a 8, .inl (d 0, 12, .inl (σ 8))), (a 9, .inl (d 0, 1400, .inl (σ 9))), (a 10, .inl (d 0, 1400, .inl (σ 10))), (a 11, .inl (d 0, 3, .inl (σ 11))), (a 12, .inl (d 0, 6, .inl (σ 12))), (a 13, .inl (d 0, 700, .inl (σ 13))), (a 14, .inl (d 0, 30, .inl (σ 14))), (a 15, .inl (d 0, 6, .inl (σ 15))), (a 16, .inl (d 0, 1640, .inl (σ 16))), (a 17, .inl (d 0, 6, .inl (σ 17))), (a 18, .inl (d 0, 64, .inl (σ 18))), (a 19, .inl (d 0, 30, .inl (σ 19))), (a 20, .inl (d 0, 41, .inl (σ 20))), (a 21, .inl (d 0, 30, .inl (σ 21))), (a 22, .inl (d 0, 448, .inl (σ 22))), (a 23, .inl (d 0, 6, .inl (σ 23))), (a 24, .inl (d 0, 8, .inl (σ 24))), (a 25, .inl (d 0, 8, .inl (σ 25))), (a 26, .inl (d 0, 8, .inl (σ 26))), (a 27, .inl (d 0, 41, .inl (σ 27))), (a 28, .inl (d 0, 60, .inl (σ 28))), (a 29, .inl (d 0, 1800, .inl (σ 29))), (a 30, .inl (d 0, 8, .inl (σ 30))), (a 31, .inl (d 0, 41, .inl (σ 31))), (a 32, .inl (d 0, 1640, .inl (σ 32))), (a 33, .inl (d 0, 8, .inl (σ 33))), (a 34, .inl (d 0, 8, .inl (σ 34))), (a 35, .inl (d 0, 8, .inl (σ 35))), (a 36, .inl (d 0, 3, .inl (σ 36)))]
def tW (d : Nat → ClassId) (a X : Nat → Nat) (σ : bqS) : va_W := (a 0, .inr (0, tF a X σ)) :: tR d a X σ
section BQT
variable {d : Nat → ClassId} {a X : Nat → Nat}
theorem tA4 : bq_ar (tW d a X) 4 4 18 (d 0) (a 4) := fun _ => ⟨rfl, fun _ => rfl⟩
theorem tA5 : bq_ar (tW d a X) 5 5 60 (d 0) (a 5) := fun _ => ⟨rfl, fun _ => rfl⟩
theorem tA6 : bq_ar (tW d a X) 6 6 12 (d 0) (a 6) := fun _ => ⟨rfl, fun _ => rfl⟩
theorem tA7 : bq_ar (tW d a X) 7 7 12 (d 0) (a 7) := fun _ => ⟨rfl, fun _ => rfl⟩
theorem tA8 : bq_ar (tW d a X) 8 8 12 (d 0) (a 8) := fun _ => ⟨rfl, fun _ => rfl⟩
theorem tA9 : bq_ar (tW d a X) 9 9 1400 (d 0) (a 9) := fun _ => ⟨rfl, fun _ => rfl⟩
theorem tA10 : bq_ar (tW d a X) 10 10 1400 (d 0) (a 10) := fun _ => ⟨rfl, fun _ => rfl⟩
theorem tA11 : bq_ar (tW d a X) 11 11 3 (d 0) (a 11) := fun _ => ⟨rfl, fun _ => rfl⟩
theorem tA12 : bq_ar (tW d a X) 12 12 6 (d 0) (a 12) := fun _ => ⟨rfl, fun _ => rfl⟩
theorem tA13 : bq_ar (tW d a X) 13 13 700 (d 0) (a 13) := fun _ => ⟨rfl, fun _ => rfl⟩
theorem tA14 : bq_ar (tW d a X) 14 14 30 (d 0) (a 14) := fun _ => ⟨rfl, fun _ => rfl⟩
theorem tA15 : bq_ar (tW d a X) 15 15 6 (d 0) (a 15) := fun _ => ⟨rfl, fun _ => rfl⟩
theorem tA16 : bq_ar (tW d a X) 16 16 1640 (d 0) (a 16) := fun _ => ⟨rfl, fun _ => rfl⟩
theorem tA17 : bq_ar (tW d a X) 17 17 6 (d 0) (a 17) := fun _ => ⟨rfl, fun _ => rfl⟩
theorem tA18 : bq_ar (tW d a X) 18 18 64 (d 0) (a 18) := fun _ => ⟨rfl, fun _ => rfl⟩
theorem tA19 : bq_ar (tW d a X) 19 19 30 (d 0) (a 19) := fun _ => ⟨rfl, fun _ => rfl⟩
theorem tA20 : bq_ar (tW d a X) 20 20 41 (d 0) (a 20) := fun _ => ⟨rfl, fun _ => rfl⟩
theorem tA21 : bq_ar (tW d a X) 21 21 30 (d 0) (a 21) := fun _ => ⟨rfl, fun _ => rfl⟩
theorem tA22 : bq_ar (tW d a X) 22 22 448 (d 0) (a 22) := fun _ => ⟨rfl, fun _ => rfl⟩
theorem tA23 : bq_ar (tW d a X) 23 23 6 (d 0) (a 23) := fun _ => ⟨rfl, fun _ => rfl⟩
theorem tA24 : bq_ar (tW d a X) 24 24 8 (d 0) (a 24) := fun _ => ⟨rfl, fun _ => rfl⟩
theorem tA25 : bq_ar (tW d a X) 25 25 8 (d 0) (a 25) := fun _ => ⟨rfl, fun _ => rfl⟩
theorem tA26 : bq_ar (tW d a X) 26 26 8 (d 0) (a 26) := fun _ => ⟨rfl, fun _ => rfl⟩
theorem tA27 : bq_ar (tW d a X) 27 27 41 (d 0) (a 27) := fun _ => ⟨rfl, fun _ => rfl⟩
theorem tA28 : bq_ar (tW d a X) 28 28 60 (d 0) (a 28) := fun _ => ⟨rfl, fun _ => rfl⟩
theorem tA29 : bq_ar (tW d a X) 29 29 1800 (d 0) (a 29) := fun _ => ⟨rfl, fun _ => rfl⟩
theorem tA30 : bq_ar (tW d a X) 30 30 8 (d 0) (a 30) := fun _ => ⟨rfl, fun _ => rfl⟩
theorem tA31 : bq_ar (tW d a X) 31 31 41 (d 0) (a 31) := fun _ => ⟨rfl, fun _ => rfl⟩
theorem tA32 : bq_ar (tW d a X) 32 32 1640 (d 0) (a 32) := fun _ => ⟨rfl, fun _ => rfl⟩
theorem tA33 : bq_ar (tW d a X) 33 33 8 (d 0) (a 33) := fun _ => ⟨rfl, fun _ => rfl⟩
theorem tA34 : bq_ar (tW d a X) 34 34 8 (d 0) (a 34) := fun _ => ⟨rfl, fun _ => rfl⟩
theorem tA35 : bq_ar (tW d a X) 35 35 8 (d 0) (a 35) := fun _ => ⟨rfl, fun _ => rfl⟩
theorem tA36 : bq_ar (tW d a X) 36 36 3 (d 0) (a 36) := fun _ => ⟨rfl, fun _ => rfl⟩
end BQT
theorem tw_same {s : State} (k : Nat) : ∀ x, s.fieldFound? (TX7 k).1 (TX7 k).2.1 (TX7 k).2.2.1 = some x → s.fieldFound? RX7 (TX7 k).2.1 (TX7 k).2.2.1 = some x := by
  intro x h
  have e : (TX7 k).1 = RX7 := by unfold TX7; split <;> rfl
  rw [e] at h
  exact h
section BQ3
variable {p : Program} {l : Launch} {e : Env} {R : Room} {s : State} {m : MethodId} {args : Array Value} {below : List Frame} {meth : Method} {c : Code} {H H0 : Heap} {locs : List Loc} {Q : State → Prop} {A : Nat → Prop} {D : va_G} {cc : ByteArray} {pc cells slots : Nat} {ls : Array Slot} {rest : List Value} {d : Nat → ClassId} {a X : Nat → Nat} {σ : bqS} {index : Nat}
theorem tw_get {v : Value} (hx : p.tables.exec = Jvm.exec) (hb : c.code = cc) (hts : ∀ w ∈ lw_all, w.before args s = true) (hown : s.vm.findClass RX7 = some m.cls) (hK : va_K D bqCl (bqTy d) s) (hP : va_P D bqCl (tW d a X σ) H) (k : Nat) (hk : k < 64) (hlink : (Cond.fieldLink RX7 index RX7 (TX7 k).2.1 (TX7 k).2.2.1).before args s = true) (hv : (tF a X σ)[k]? = some v) (hdg : decode cc pc = .ok (.getfield index, 3))
    (kk : W p l e R s m args below meth c H locs cells slots Q (F0 m (pc + 3) ls (v :: rest))) : W p l e R s m args below meth c H locs cells slots Q (F0 m pc ls (.ref (a 0) :: rest)) :=
  va_get (D := D) (ci := 0) (C := RX7) (T := TX7) (N := 64) (ref := RX7) (fs := tF a X σ) hx hb hts in_X7 hown hK hP 0 rfl rfl k hk hlink (tw_same k) hv hdg kk
theorem tw_put {v : Value} {ty : FieldType} {z : Int32} (hx : p.tables.exec = Jvm.exec) (hb : c.code = cc) (hts : ∀ w ∈ lw_all, w.before args s = true) (hown : s.vm.findClass RX7 = some m.cls) (hK : va_K D bqCl (bqTy d) s) (hP : va_P D bqCl (tW d a X σ) H) (hD : va_D A (tW d a X σ)) (hS : va_S A H0 H locs) (k : Nat) (hk : k < 64) (hlink : (Cond.fieldLink RX7 index RX7 (TX7 k).2.1 (TX7 k).2.2.1).before args s = true) (hfin : (TX7 k).2.2.2 = false) (hd : parseFieldDescriptor (TX7 k).2.2.1 = some ty) (hn : narrow ty v = v) (hfit : fits ty v = true) (hs : (tF a X σ).set k v = tF a X (bq_up σ 0 k z)) (hdg : decode cc pc = .ok (.putfield index, 3))
    (kk : ∀ (H1 : Heap) (locs1 : List Loc), va_P D bqCl (tW d a X (bq_up σ 0 k z)) H1 → va_D A (tW d a X (bq_up σ 0 k z)) → va_S A H0 H1 locs1 → W p l e R s m args below meth c H1 locs1 cells slots Q (F0 m (pc + 3) ls rest)) : W p l e R s m args below meth c H locs cells slots Q (F0 m pc ls (v :: .ref (a 0) :: rest)) := by
  refine va_put (D := D) (ci := 0) (C := RX7) (T := TX7) (N := 64) (ref := RX7) (fs := tF a X σ) hx hb hts in_X7 tyX7 tyX7_ok nmX7 hown hK hP hD hS 0 rfl rfl k hk hlink (tw_same k) hfin hd hn hfit hk hdg (fun H1 locs1 hP hD hS => ?_)
  rw [hs] at hP hD
  exact kk H1 locs1 hP hD hS
theorem bq_alenS {q : Nat} (hx : p.tables.exec = Jvm.exec) (hb : c.code = cc) (hK : va_K D bqCl (bqTy d) s) (hP : va_P D bqCl (tW d a X σ) H) (h : q = 1 ∨ q = 2 ∨ q = 3) (hdg : decode cc pc = .ok (.arraylength, 1))
    (kk : W p l e R s m args below meth c H locs cells slots Q (F0 m (pc + 1) ls (.int (Int32.ofNat (bqSN q)) :: rest))) : W p l e R s m args below meth c H locs cells slots Q (F0 m pc ls (.ref (a q) :: rest)) := by
  rcases h with rfl | rfl | rfl
  · exact va_alen hx hb hK hP 1 1 rfl rfl rfl hdg kk
  · exact va_alen hx hb hK hP 2 1 rfl rfl rfl hdg kk
  · exact va_alen hx hb hK hP 3 1 rfl rfl rfl hdg kk
theorem bq_aaldS {q : Nat} {i : Int32} (hx : p.tables.exec = Jvm.exec) (hb : c.code = cc) (hK : va_K D bqCl (bqTy d) s) (hP : va_P D bqCl (tW d a X σ) H) (h : q = 1 ∨ q = 2 ∨ q = 3) (hin : vp_in i (bqSN q)) (hdg : decode cc pc = .ok (.aaload, 1))
    (kk : W p l e R s m args below meth c H locs cells slots Q (F0 m (pc + 1) ls (.ref (X (bqSA q i.toNatClampNeg)) :: rest))) : W p l e R s m args below meth c H locs cells slots Q (F0 m pc ls (.int i :: .ref (a q) :: rest)) := by
  rcases h with rfl | rfl | rfl
  · exact va_aldq hx hb hK hP 1 1 rfl rfl hin hdg kk
  · exact va_aldq hx hb hK hP 2 1 rfl rfl hin hdg kk
  · exact va_aldq hx hb hK hP 3 1 rfl rfl hin hdg kk
end BQ3
/-! texts that stand from the start -/
def bq_ks (X Y : Nat → Nat) (A : Nat → Prop) (U : State) (H : Heap) : Prop := ∀ i : Nat, i < bqNS → va_O "java/lang/String" (X i) A U H ∧ va_OF "java/lang/String" "coder" "B" (.int 0) (X i) A U H ∧ va_OF "java/lang/String" "value" "[B" (.ref (Y i)) (X i) A U H ∧ va_T .byte (Y i) (bqSL i) (fun j => .int (bqSB i j)) A U H
def bq_Str (am : bqAm) (X : Nat → Nat) : Prop := ∃ Y : Nat → Nat, ∀ (A : Nat → Prop) (U : State), am A U U.heap → bq_ks X Y A U U.heap ∧ (∀ q ∈ bqLd, vk_R q.1 q.2.1 q.2.2.1 (X q.2.2.2) U) ∧ va_Z "java/lang/String" "COMPACT_STRINGS" "Z" (.int 1) A U U.heap ∧ va_Zq "jdk/internal/util/Preconditions" "SIOOBE_FORMATTER" "Ljava/util/function/BiFunction;" A U U.heap
theorem bq_strR {am : bqAm} {X : Nat → Nat} {A : Nat → Prop} {s : State} {own tx : String} {k j : Nat} (h : bq_Str am X) (hm : am A s s.heap) (n : Nat) (hn : bqLd[n]? = some (own, k, tx, j)) : vk_R own k tx (X j) s := by
  obtain ⟨Y, hY⟩ := h
  exact (hY A s hm).2.1 _ (List.mem_of_getElem? hn)
theorem bq_srcv {am : bqAm} {X : Nat → Nat} {A : Nat → Prop} {s : State} {H : Heap} {locs : List Loc} {j : Nat} (h : bq_Str am X) (hm : am A s s.heap) (hj : j < bqNS) (hS : va_S A s.heap H locs) : ∃ cell : Cell, H[X j]? = some cell ∧ cell.vm.isStatics = false ∧ s.vm.findClass "java/lang/String" = some cell.cls := by
  obtain ⟨Y, hY⟩ := h
  obtain ⟨cell, h1, h2, h3, -⟩ := ((hY A s hm).1 j hj).1.kept hS.2.1
  exact ⟨cell, h1, h2, h3⟩
