/-! base 2: worlds of blocks, calls with a frame, counters of what was made -/
set_option maxRecDepth 100000
theorem bq_pm {α : Type} {bs cs : List α} {n : Nat} (is : List Nat) (hn : bs.length = n) (hp : is.isPerm (List.range n) = true) (h : is.map (fun i => bs[i]?) = cs.map some) : bs.Perm cs := by
  have h1 : (is.map (fun i => bs[i]?)).Perm ((List.range n).map (fun i => bs[i]?)) := (List.isPerm_iff.mp hp).map _
  have h2 : (List.range n).map (fun i => bs[i]?) = bs.map some := by
    subst hn
    apply List.ext_getElem
    · simp
    · intro i h3 h4
      simp at h3
      simp [h3]
  rw [h, h2] at h1
  have h3 := h1.filterMap id
  have e : ∀ l : List α, (l.map some).filterMap id = l := by
    intro l
    induction l with
    | nil => rfl
    | cons a t ih => simp
  rw [e, e] at h3
  exact h3.symm
theorem bq_flat {bs cs : List va_W} (h : bs.Perm cs) : bs.flatten.Perm cs.flatten := by
  induction h with
  | nil => exact List.Perm.refl _
  | cons x _ ih => simp only [List.flatten_cons]; exact List.Perm.append_left x ih
  | swap x y l =>
    simp only [List.flatten_cons, ← List.append_assoc]
    exact List.Perm.append_right _ List.perm_append_comm
  | trans _ _ ih1 ih2 => exact ih1.trans ih2
section BQ4
variable {p : Program} {l : Launch} {e : Env} {R : Room} {s : State} {m : MethodId} {args : Array Value} {below : List Frame} {meth : Method} {c : Code} {H H0 : Heap} {locs : List Loc} {Q : State → Prop} {A : Nat → Prop} {D : va_G} {cl : List vw_C} {tys : List (ClassId × FieldType)} {am : bqAm} {cc : ByteArray} {nL NF NL pc kc ks : Nat} {own : String} {ls : Array Slot} {rest st : List Value} {o : Option Value} {w w' wr W0 : va_W}
theorem bq_fin2 {a : Array Value} (hr : va_Run p l e R s m args below meth c H locs kc ks 0 0 (F0 m pc ls st) rest (bq_Q D cl o w' (va_A w H.size) a) (va_A w H.size)) (hA : ∀ q : Nat, s.heap.size ≤ q → A q) (hP : va_P D cl W0 H) (hD : va_D A W0) (hS : va_S A s.heap H locs) (hp : W0.Perm (w ++ wr))
    (kk : ∀ (H1 : Heap) (locs1 : List Loc), va_P D cl (w' ++ wr) H1 → va_D A (w' ++ wr) → va_S A s.heap H1 locs1 → W p l e R s m args below meth c H1 locs1 kc ks Q (F0 m (pc + 3) ls (o.toList ++ rest))) : W p l e R s m args below meth c H locs kc ks Q (F0 m pc ls st) := by
  have hF := bq_free hD hS hA hp
  intro T hT X
  obtain ⟨v, st₀, t, T', L, h0, X', hL, e1, e2, ⟨⟨hv, hP1, hD1⟩, hz, hk⟩, stp⟩ := hr T hT X
  cases hv
  rw [h0] at hz hk
  rw [← e1] at hP1 hz hk
  obtain ⟨hP2, hD2⟩ := bq_join hP hD hp hk hF hP1 hD1
  obtain ⟨t2, a1, b1⟩ := kk T'.heap (locs ++ L) hP2 hD2
    ⟨Nat.le_trans hS.1 hz, fun q h1 h2 => by rw [hk q (Nat.lt_of_lt_of_le h1 hS.1) (fun z => h2 (hF q z))]; exact hS.2.1 q h1 h2, fun q hq => by
      rcases List.mem_append.mp hq with h | h
      · exact hS.2.2 q h
      · exact hF _ (hL q h)⟩ T' rfl X'
  exact ⟨t2, stp t2 a1, b1⟩
/-- an instance method of known answer, in a world of blocks: bc the callee's, br the rest -/
theorem bq_cV {bs bc br bc' bs' : List va_W} {y : MethodName} {cn : String} {by' : ByteArray} {nY NF' NL' index n : Nat} {ret : Option FieldType} {b : Nat} {As : List Value} (C : bq_C p R s m args meth c A D cl tys am cc nL own NF NL) (hkc : kc ≤ R.cells) (hks : ks ≤ R.slots) (hM : bq_M l y by' nY ret NF' NL' D cl tys am (.ref b :: As) bc.flatten o bc'.flatten)
    (hp1 : bs.Perm (bc ++ br)) (hp2 : (bc' ++ br).Perm bs')
    (hG : GoodIn lw_all (wsV own index cn y (ws_ y by' nY ret))) (hd : y.cls = cn ∧ y.cls ≠ "java/lang/invoke/MethodHandle" ∧ y.cls ≠ "java/lang/invoke/VarHandle" ∧ (parseMethodDescriptor y.desc).map (fun d => d.parameters.length) = some n) (hNF : NF' + 1 ≤ NF) (hNL : 8 + (nY + 11) + NL' ≤ NL)
    (hrv : ∃ cellB : Cell, H[b]? = some cellB ∧ cellB.vm.isStatics = false ∧ s.vm.findClass cn = some cellB.cls) (hn : As.length = n) (hls : ls.size = nL) (hst : st = As.reverse ++ .ref b :: rest) (hc8 : (rest.map fun v => v.category).sum ≤ 8) (hdg : decode cc pc = .ok (.invokevirtual index, 3))
    (hP : va_P D cl bs.flatten H) (hD : va_D A bs.flatten) (hS : va_S A s.heap H locs)
    (kk : ∀ (H1 : Heap) (locs1 : List Loc), va_P D cl bs'.flatten H1 → va_D A bs'.flatten → va_S A s.heap H1 locs1 → W p l e R s m args below meth c H1 locs1 kc ks Q (F0 m (pc + 3) ls (o.toList ++ rest))) : W p l e R s m args below meth c H locs kc ks Q (F0 m pc ls st) := by
  have C0 := C
  obtain ⟨hx, hb, hown, hts, hml, hlocks, hA, hK, hm, hRf, hRl, hok⟩ := C
  have hp : bs.flatten.Perm (bc.flatten ++ br.flatten) := by rw [← List.flatten_append]; exact bq_flat hp1
  have hq : (bc'.flatten ++ br.flatten).Perm bs'.flatten := by rw [← List.flatten_append]; exact bq_flat hp2
  exact bq_fin2 (va_runV (As := As) (rest := rest) ⟨hx, hb, hml, hown, hts⟩ (hM H.size) (cwV n hts hG rfl rfl rfl hd ⟨Nat.le_trans hNF hRf, Nat.le_trans hNL hRl⟩) ⟨bq_blind hok, hrv, fun U hU hW => bq_pre C0 hP hD hS hp hU hW⟩ rfl hn hls hst (lv_room hc8) hdg ⟨hkc, hks⟩) hA hP hD hS hp
    (fun H1 locs1 hP hD hS => kk H1 locs1 (bq_Pp hq hP) (bq_Dp hq hD) hS)
theorem bq_cU {bs bc br bc' bs' : List va_W} {x y : MethodName} {cn owner : String} {by' : ByteArray} {nY NF' NL' index n : Nat} {ret : Option FieldType} {b : Nat} {As : List Value} (C : bq_C p R s m args meth c A D cl tys am cc nL own NF NL) (hkc : kc ≤ R.cells) (hks : ks ≤ R.slots) (hM : bq_M l y by' nY ret NF' NL' D cl tys am (.ref b :: As) bc.flatten o bc'.flatten)
    (hp1 : bs.Perm (bc ++ br)) (hp2 : (bc' ++ br).Perm bs')
    (hcu : va_CU R s args own cn owner index x y by' nY ret (ws_ y by' nY ret) { frames := NF', cells := 0, slots := 0, locals := NL' } 0 0 n)
    (hrv : ∃ cellB : Cell, H[b]? = some cellB ∧ cellB.vm.isStatics = false ∧ s.vm.findClass cn = some cellB.cls) (hn : As.length = n) (hls : ls.size = nL) (hst : st = As.reverse ++ .ref b :: rest) (hc8 : (rest.map fun v => v.category).sum ≤ 8) (hdg : decode cc pc = .ok (.invokevirtual index, 3))
    (hP : va_P D cl bs.flatten H) (hD : va_D A bs.flatten) (hS : va_S A s.heap H locs)
    (kk : ∀ (H1 : Heap) (locs1 : List Loc), va_P D cl bs'.flatten H1 → va_D A bs'.flatten → va_S A s.heap H1 locs1 → W p l e R s m args below meth c H1 locs1 kc ks Q (F0 m (pc + 3) ls (o.toList ++ rest))) : W p l e R s m args below meth c H locs kc ks Q (F0 m pc ls st) := by
  have C0 := C
  obtain ⟨hx, hb, hown, hts, hml, hlocks, hA, hK, hm, hRf, hRl, hok⟩ := C
  have hp : bs.flatten.Perm (bc.flatten ++ br.flatten) := by rw [← List.flatten_append]; exact bq_flat hp1
  have hq : (bc'.flatten ++ br.flatten).Perm bs'.flatten := by rw [← List.flatten_append]; exact bq_flat hp2
  exact bq_fin2 (va_runU (As := As) (rest := rest) ⟨hx, hb, hml, hown, hts⟩ (hM H.size) hcu ⟨bq_blind hok, hrv, fun U hU hW => bq_pre C0 hP hD hS hp hU hW⟩ rfl hn hls hst (lv_room hc8) hdg ⟨hkc, hks⟩) hA hP hD hS hp
    (fun H1 locs1 hP hD hS => kk H1 locs1 (bq_Pp hq hP) (bq_Dp hq hD) hS)
theorem bq_cS {bs bc br bc' bs' : List va_W} {y : MethodName} {by' : ByteArray} {nY NF' NL' index n : Nat} {ret : Option FieldType} {As : List Value} (C : bq_C p R s m args meth c A D cl tys am cc nL own NF NL) (hkc : kc ≤ R.cells) (hks : ks ≤ R.slots) (hM : bq_M l y by' nY ret NF' NL' D cl tys am As bc.flatten o bc'.flatten)
    (hp1 : bs.Perm (bc ++ br)) (hp2 : (bc' ++ br).Perm bs')
    (hG : GoodIn lw_all (va_wsS own index y (ws_ y by' nY ret))) (hd : y.cls ≠ "java/lang/invoke/MethodHandle" ∧ y.cls ≠ "java/lang/invoke/VarHandle" ∧ (parseMethodDescriptor y.desc).map (fun d => d.parameters.length) = some n) (hNF : NF' + 1 ≤ NF) (hNL : 8 + (nY + 11) + NL' ≤ NL)
    (hn : As.length = n) (hls : ls.size = nL) (hst : st = As.reverse ++ rest) (hc8 : (rest.map fun v => v.category).sum ≤ 8) (hdg : decode cc pc = .ok (.invokestatic index, 3))
    (hP : va_P D cl bs.flatten H) (hD : va_D A bs.flatten) (hS : va_S A s.heap H locs)
    (kk : ∀ (H1 : Heap) (locs1 : List Loc), va_P D cl bs'.flatten H1 → va_D A bs'.flatten → va_S A s.heap H1 locs1 → W p l e R s m args below meth c H1 locs1 kc ks Q (F0 m (pc + 3) ls (o.toList ++ rest))) : W p l e R s m args below meth c H locs kc ks Q (F0 m pc ls st) := by
  have C0 := C
  obtain ⟨hx, hb, hown, hts, hml, hlocks, hA, hK, hm, hRf, hRl, hok⟩ := C
  have hp : bs.flatten.Perm (bc.flatten ++ br.flatten) := by rw [← List.flatten_append]; exact bq_flat hp1
  have hq : (bc'.flatten ++ br.flatten).Perm bs'.flatten := by rw [← List.flatten_append]; exact bq_flat hp2
  exact bq_fin2 (va_runS (As := As) (rest := rest) ⟨hx, hb, hml, hown, hts⟩ (hM H.size) (va_cwS n hts hG rfl rfl rfl hd ⟨Nat.le_trans hNF hRf, Nat.le_trans hNL hRl⟩) ⟨bq_blind hok, fun U hU hW => bq_pre C0 hP hD hS hp hU hW⟩ rfl hn hls hst (lv_room hc8) hdg ⟨hkc, hks⟩) hA hP hD hS hp
    (fun H1 locs1 hP hD hS => kk H1 locs1 (bq_Pp hq hP) (bq_Dp hq hD) hS)
/-- array rows over any world, the world behind named -/
theorem bq_ild {q n j a : Nat} {t : ClassId} {f : Nat → Int32} {ws : va_W} (hx : p.tables.exec = Jvm.exec) (hb : c.code = cc) (hK : va_K D cl tys s) (hP : va_P D cl ws H) (q : Nat) (ha : ws[q]? = some (a, .inl (t, n, .inl f))) (ht : tys[0]? = some (t, .int)) {i : Int32} (hin : vp_in i n) (hj : i.toNatClampNeg = j) (hdg : decode cc pc = .ok (.iaload, 1))
    (kk : W p l e R s m args below meth c H locs kc ks Q (F0 m (pc + 1) ls (.int (f j) :: rest))) : W p l e R s m args below meth c H locs kc ks Q (F0 m pc ls (.int i :: .ref a :: rest)) :=
  va_iald hx hb hK hP q 0 ha ht hin hdg (by rw [hj]; exact kk)
theorem bq_ist {n j a : Nat} {t : ClassId} {f : Nat → Int32} {ws ws' : va_W} (hx : p.tables.exec = Jvm.exec) (hb : c.code = cc) (hK : va_K D cl tys s) (hP : va_P D cl ws H) (hD : va_D A ws) (hS : va_S A H0 H locs) (q : Nat) (ha : ws[q]? = some (a, .inl (t, n, .inl f))) (ht : tys[0]? = some (t, .int)) {i x : Int32} (hin : vp_in i n) (hj : i.toNatClampNeg = j) (hw : ws.set q (a, .inl (t, n, .inl (upd f j x))) = ws') (hdg : decode cc pc = .ok (.iastore, 1))
    (kk : ∀ (H1 : Heap) (locs1 : List Loc), va_P D cl ws' H1 → va_D A ws' → va_S A H0 H1 locs1 → W p l e R s m args below meth c H1 locs1 kc ks Q (F0 m (pc + 1) ls rest)) : W p l e R s m args below meth c H locs kc ks Q (F0 m pc ls (.int x :: .int i :: .ref a :: rest)) := by
  refine va_iast hx hb hK hP hD hS q 0 ha ht hin hdg (fun H1 locs1 hP hD hS => ?_)
  rw [hj, hw] at hP hD
  exact kk H1 locs1 hP hD hS
end BQ4
