set_option maxRecDepth 100000
def bq_cp {α : Type} (dp : Int32) (u n : Nat) (k : Option α) : Option α := if ¬ dp < 0 ∧ dp.toNatClampNeg + u ≤ n then k else none
theorem bq_cps {α : Type} {dp : Int32} {u n : Nat} {k : Option α} {r : α} (h : bq_cp dp u n k = some r) : (¬ dp < 0 ∧ dp.toNatClampNeg + u ≤ n) ∧ k = some r := by
  unfold bq_cp at h
  split at h
  · rename_i hc
    exact ⟨hc, h⟩
  · cases h
theorem bq_inlt {i : Int32} {n : Nat} (h : vp_in i n) : i.toNatClampNeg < n := Nat.not_le.mp fun q => h (Or.inr q)
theorem bq_l6 {a b c d e f : Cond} (h1 : a ∈ lw_all) (h2 : b ∈ lw_all) (h3 : c ∈ lw_all) (h4 : d ∈ lw_all) (h5 : e ∈ lw_all) (h6 : f ∈ lw_all) : ∀ w ∈ ([a, b, c, d, e, f] : List Cond), w ∈ lw_all := by
  intro w hw
  simp only [List.mem_cons, List.not_mem_nil, or_false] at hw
  rcases hw with e | e | e | e | e | e
  · rw [e]; exact h1
  · rw [e]; exact h2
  · rw [e]; exact h3
  · rw [e]; exact h4
  · rw [e]; exact h5
  · rw [e]; exact h6
theorem bq_l5 {a b c d e : Cond} (h1 : a ∈ lw_all) (h2 : b ∈ lw_all) (h3 : c ∈ lw_all) (h4 : d ∈ lw_all) (h5 : e ∈ lw_all) : ∀ w ∈ ([a, b, c, d, e] : List Cond), w ∈ lw_all := by
  intro w hw
  simp only [List.mem_cons, List.not_mem_nil, or_false] at hw
  rcases hw with e | e | e | e | e
  · rw [e]; exact h1
  · rw [e]; exact h2
  · rw [e]; exact h3
  · rw [e]; exact h4
  · rw [e]; exact h5
theorem hd_J2_size : yJ2_size.cls = "java/util/ArrayList" ∧ yJ2_size.cls ≠ "java/lang/invoke/MethodHandle" ∧ yJ2_size.cls ≠ "java/lang/invoke/VarHandle" ∧ (parseMethodDescriptor yJ2_size.desc).map (fun d => d.parameters.length) = some 0 := by decide +kernel
theorem hd_J2_get : yJ2_get.cls = "java/util/ArrayList" ∧ yJ2_get.cls ≠ "java/lang/invoke/MethodHandle" ∧ yJ2_get.cls ≠ "java/lang/invoke/VarHandle" ∧ (parseMethodDescriptor yJ2_get.desc).map (fun d => d.parameters.length) = some 1 := by decide +kernel
section BQ5
variable {p : Program} {l : Launch} {e : Env} {R : Room} {s : State} {m : MethodId} {args : Array Value} {below : List Frame} {meth : Method} {c : Code} {H : Heap} {locs : List Loc} {Q : State → Prop} {A : Nat → Prop} {D : va_G} {cl : List vw_C} {tys : List (ClassId × FieldType)} {am : bqAm} {cc : ByteArray} {nL NF NL pc kc ks : Nat} {own : String} {ls : Array Slot} {rest : List Value} {w : va_W} {X vE sE ca : Nat → Nat} {d : Nat → ClassId} {P : va_W} {index N : Nat}
theorem bq_aret {q : Nat} {cn : String} (C : bq_C p R s m args meth c A D cl tys am cc nL own NF NL) (hr : meth.sig.returnType = some (.object cn)) (hP : va_P D cl w H) (hD : va_D A w) (hS : va_S A s.heap H locs) (hdg : decode cc pc = .ok (.areturn, 1)) :
    W p l e R s m args below meth c H locs 0 0 (MQ below (bq_Q D cl (some (.ref q)) w A) args s 0 0 A) (F0 m pc ls [.ref q]) := by
  obtain ⟨hx, hb, hown, hts, hml, hlocks, hA, hK, hm, -, -, -⟩ := C
  exact W.aret hx hb hr (Or.inl ⟨_, rfl⟩) (Or.inr ⟨_, rfl⟩) (fun t ht hW => ⟨⟨rfl, by rw [ht]; exact hP, hD⟩, hS.F ht⟩) hS.2.2 hdg hlocks
theorem bq_rfn {o : Option Nat} (h : o = none) (k : W p l e R s m args below meth c H locs kc ks Q (F0 m pc ls (.null :: rest))) : W p l e R s m args below meth c H locs kc ks Q (F0 m pc ls (va_rf o :: rest)) := by rw [h]; exact k
theorem bq_rfs {o : Option Nat} {q : Nat} (h : o = some q) (k : W p l e R s m args below meth c H locs kc ks Q (F0 m pc ls (.ref q :: rest))) : W p l e R s m args below meth c H locs kc ks Q (F0 m pc ls (va_rf o :: rest)) := by rw [h]; exact k
/-- Enum.ordinal of a value -/
theorem met_ord (hok : bq_Ok am) (hamb : bq_Amb am X vE sE) {i : Nat} (hi : i < 6) : bq_M l yJ17_ordinal cJ17_ordinal 1 (some .int) 0 0 D cl tys am [.ref (vE i)] w (some (.int (Int32.ofNat i))) w := by
  refine bq_of hok (by decide +kernel) (Nat.le_of_ble_eq_true rfl) ?_
  intro p e s m below meth c A ls C hr hP hD hS hl
  have C0 := C
  obtain ⟨hx, hb, hown, hts, hml, hlocks, hA, hK, hm, hRf, hRl, hok⟩ := C
  have hl : lv_has ls 1 [(0, .ref (vE i))] := hl
  have hE := (hamb.2 _ s hm).2.2.2.2.2.1
  refine lv_aload_n hx hb dJ17_ordinal_0 rfl (lv_at hl 0 rfl) ?_
  refine va_getE (q := ("java/lang/Enum", "ordinal", "I", [0, 1, 2, 3, 4, 5])) hx hb hE hi hS hown (List.mem_cons_self) (hts _ q2384) (fun x h => h) dJ17_ordinal_1 ?_
  have e1 : (([0, 1, 2, 3, 4, 5] : List Int32).getD i 0) = Int32.ofNat i := by
    rcases i with _ | _ | _ | _ | _ | _ | i
    · rfl
    · rfl
    · rfl
    · rfl
    · rfl
    · rfl
    · omega
  refine bq_tope e1.symm ?_
  exact bq_iret C0 hr hP hD hS dJ17_ordinal_4
theorem bq_callOrd {bs : List va_W} {i : Nat} (C : bq_C p R s m args meth c A D cl tys am cc nL own NF NL) (hkc : kc ≤ R.cells) (hks : ks ≤ R.slots) (hok : bq_Ok am) (hamb : bq_Amb am X vE sE) (hi : i < 6) (hlink : Cond.methodLink own index ⟨"BlueBag$Value", "ordinal", "()I"⟩ ∈ lw_all) (hNF : 1 ≤ NF) (hNL : 20 ≤ NL)
    (hls : ls.size = nL) (hc8 : (rest.map fun v => v.category).sum ≤ 8) (hdg : decode cc pc = .ok (.invokevirtual index, 3))
    (hP : va_P D cl bs.flatten H) (hD : va_D A bs.flatten) (hS : va_S A s.heap H locs)
    (kk : ∀ (H1 : Heap) (locs1 : List Loc), va_P D cl bs.flatten H1 → va_D A bs.flatten → va_S A s.heap H1 locs1 → W p l e R s m args below meth c H1 locs1 kc ks Q (F0 m (pc + 3) ls (.int (Int32.ofNat i) :: rest))) : W p l e R s m args below meth c H locs kc ks Q (F0 m pc ls (.ref (vE i) :: rest)) := by
  have C0 := C
  obtain ⟨hx, hb, hown, hts, hml, hlocks, hA, hK, hm, hRf, hRl, -⟩ := C
  have hE := (hamb.2 _ s hm).2.2.2.2.2.1
  refine bq_cU (bs := bs) (bc := bs) (br := []) (bc' := bs) (bs' := bs) (As := []) (rest := rest) (o := some (.int (Int32.ofNat i))) C0 hkc hks (met_ord hok hamb hi) (by rw [List.append_nil]) (by rw [List.append_nil])
    (va_cwU (own := own) (C := "BlueBag$Value") (owner := "java/lang/Enum") (x := ⟨"BlueBag$Value", "ordinal", "()I"⟩) (y := yJ17_ordinal) 0 hts (lw_app (bq_l5 hlink q882 q884 q885 q135) (lw_meth q886)) rfl rfl rfl rfl (by decide +kernel) ⟨Nat.le_trans hNF hRf, Nat.le_trans hNL hRl⟩)
    (va_recvE hE hi hS) rfl hls rfl hc8 hdg hP hD hS kk
abbrev xBy : MethodName := ⟨"BlueBag$Expr", "by", "(LBlueBag$View;)I"⟩
/-- every expression of depth at most N among the cells P answers what it reckons -/
def bq_By (l : Launch) (D : va_G) (am : bqAm) (d : Nat → ClassId) (ca vE : Nat → Nat) (P : va_W) (N : Nat) : Prop :=
  ∀ (ν : bqS) (f : (Nat → Int32) → Int32) (q : Nat), exq P vE N f q → ∃ (cn : String) (y : MethodName) (by' : ByteArray) (nY ci : Nat) (fs : List Value) (r : vw_C), nY ≤ 4 ∧ (q, .inr (ci, fs)) ∈ P ∧ bqCl[ci]? = some r ∧ r.1 = cn ∧
    Cond.selects cn xBy y ∈ lw_all ∧ Cond.instanceMethod y ∈ lw_all ∧ Cond.initialized y.cls ∈ lw_all ∧ Cond.code y by' nY (some .int) ∈ lw_all ∧
    bq_M l y by' nY (some .int) (2 * N) (60 * N) D bqCl (bqTy d) am [.ref q, .ref (ca 4)] (List.flatten ([viB d ca ν, P] : List va_W)) (some (.int (f (ν 1)))) (List.flatten ([viB d ca ν, P] : List va_W))
theorem bq_callBy {bs br : List va_W} {ν : bqS} {f : (Nat → Int32) → Int32} {q : Nat} (C : bq_C p R s m args meth c A D bqCl (bqTy d) am cc nL own NF NL) (hkc : kc ≤ R.cells) (hks : ks ≤ R.slots) (hok : bq_Ok am) (hamb : bq_Amb am X vE sE) (hby : bq_By l D am d ca vE P N) (hq : exq P vE N f q) (hlink : Cond.methodLink own index xBy ∈ lw_all) (hNF : 2 * N + 1 ≤ NF) (hNL : 60 * N + 30 ≤ NL)
    (hp : bs.Perm ([viB d ca ν, P] ++ br)) (hls : ls.size = nL) (hc8 : (rest.map fun v => v.category).sum ≤ 8) (hdg : decode cc pc = .ok (.invokevirtual index, 3))
    (hP : va_P D bqCl bs.flatten H) (hD : va_D A bs.flatten) (hS : va_S A s.heap H locs)
    (kk : ∀ (H1 : Heap) (locs1 : List Loc), va_P D bqCl bs.flatten H1 → va_D A bs.flatten → va_S A s.heap H1 locs1 → W p l e R s m args below meth c H1 locs1 kc ks Q (F0 m (pc + 3) ls (.int (f (ν 1)) :: rest))) : W p l e R s m args below meth c H locs kc ks Q (F0 m pc ls (.ref (ca 4) :: .ref q :: rest)) := by
  have C0 := C
  obtain ⟨hx, hb, hown, hts, hml, hlocks, hA, hK, hm, hRf, hRl, -⟩ := C
  obtain ⟨cn, y, by', nY, ci, fs, r, hnY, hmem, hci, hcn, hs1, hs2, hs3, hs4, hM⟩ := hby ν f q hq
  have hmem2 : (q, .inr (ci, fs)) ∈ bs.flatten := by
    rw [(bq_flat hp).mem_iff]
    simp [hmem]
  obtain ⟨i, hi⟩ := List.getElem?_of_mem hmem2
  have hrv := va_recv hK hP (ci := ci) (q0 := i) (q := r) hci hi
  rw [hcn] at hrv
  exact bq_cU (bs := bs) (bc := [viB d ca ν, P]) (br := br) (bc' := [viB d ca ν, P]) (bs' := bs) (As := [.ref (ca 4)]) (rest := rest) (o := some (.int (f (ν 1)))) C0 hkc hks hM hp hp.symm
    (va_cwA (own := own) (C := cn) (owner := "BlueBag$Expr") (x := xBy) (y := y) 1 hts (lw_app (bq_l5 hlink q899 hs1 hs2 hs3) (lw_meth hs4)) rfl rfl rfl (bq_nD hamb hm (by decide +kernel)) (by decide +kernel) ⟨Nat.le_trans hNF hRf, Nat.le_trans (by show 8 + (nY + 11) + 60 * N ≤ NL; omega) hRl⟩)
    hrv rfl hls rfl hc8 hdg hP hD hS kk
theorem met_al_size {mc : Int32} {L n : Nat} (hok : bq_Ok am) : bq_M l yJ2_size cJ2_size 1 (some .int) 0 0 D bqCl (bqTy d) am [.ref (ca 2)] (List.flatten ([lsB d ca L mc n] : List va_W)) (some (.int (Int32.ofNat n))) (List.flatten ([lsB d ca L mc n] : List va_W)) := by
  refine bq_of hok (by decide +kernel) (Nat.le_of_ble_eq_true rfl) ?_
  intro p e s m below meth c A ls C hr hP hD hS hl
  have C0 := C
  obtain ⟨hx, hb, hown, hts, hml, hlocks, hA, hK, hm, hRf, hRl, hok⟩ := C
  have hl : lv_has ls 1 [(0, .ref (ca 2))] := hl
  refine lv_aload_n hx hb dJ2_size_0 rfl (lv_at hl 0 rfl) ?_
  refine gJ2_get (own := RJ2) (fs := lsF ca mc n) (v := .int (Int32.ofNat n)) (q0 := 0) hx hb hts hown hK hP rfl 2 (by decide) (hts _ q496) rfl rfl dJ2_size_1 ?_
  exact bq_iret C0 hr hP hD hS dJ2_size_4
/-- an ArrayList: its own cell and its array's -/
def alB (d : Nat → ClassId) (b0 b1 : Nat) (mc : Int32) (n L : Nat) (g : Nat → Option Nat) : va_W := [(b0, .inr (14, [.int mc, .ref b1, .int (Int32.ofNat n)])), (b1, .inl (d 5, L, .inr (.inr (.inr (.inr g)))))]
theorem met_pre_ck (hok : bq_Ok am) {i : Int32} {n : Nat} {o : Option Nat} (hn : n < 2147483648) (hi : vp_in i n) : bq_M l yJ14_checkIndex cJ14_checkIndex 3 (some .int) 0 0 D cl tys am [.int i, .int (Int32.ofNat n), va_rf o] w (some (.int i)) w := by
  refine bq_of hok (by decide +kernel) (by cases o <;> exact Nat.le_of_ble_eq_true rfl) ?_
  intro p e s m below meth c A ls C hr hP hD hS hl
  have C0 := C
  obtain ⟨hx, hb, hown, hts, hml, hlocks, hA, hK, hm, hRf, hRl, hok⟩ := C
  have hl : lv_has ls 3 [(0, .int i), (1, .int (Int32.ofNat n)), (2, va_rf o)] := hl
  obtain ⟨j, hj, rfl⟩ := vp_in_of hi (by omega)
  refine lv_iload_n hx hb dJ14_checkIndex_0 rfl (lv_at hl 0 rfl) ?_
  refine lv_if_lt (tgt := 9) hx hb dJ14_checkIndex_1 (by decide) (fun c1 => absurd c1 (nI_pos (by omega))) (fun c1 => ?_)
  refine lv_iload_n hx hb dJ14_checkIndex_4 rfl (lv_at hl 0 rfl) ?_
  refine lv_iload_n hx hb dJ14_checkIndex_5 rfl (lv_at hl 1 rfl) ?_
  refine lv_icmp_lt (tgt := 16) hx hb dJ14_checkIndex_6 (by decide) (fun c2 => ?_) (fun c2 => absurd (nI_lt hj (by omega)) c2)
  refine lv_iload_n hx hb dJ14_checkIndex_16 rfl (lv_at hl 0 rfl) ?_
  exact bq_iret C0 hr hP hD hS dJ14_checkIndex_17
theorem met_obj_ck (hok : bq_Ok am) {i : Int32} {n : Nat} (hn : n < 2147483648) (hi : vp_in i n) : bq_M l yJ18_checkIndex cJ18_checkIndex 2 (some .int) 1 22 D cl tys am [.int i, .int (Int32.ofNat n)] w (some (.int i)) w := by
  refine bq_of hok (by decide +kernel) (Nat.le_of_ble_eq_true rfl) ?_
  intro p e s m below meth c A ls C hr hP hD hS hl
  have C0 := C
  obtain ⟨hx, hb, hown, hts, hml, hlocks, hA, hK, hm, hRf, hRl, hok⟩ := C
  have hl : lv_has ls 2 [(0, .int i), (1, .int (Int32.ofNat n))] := hl
  refine lv_iload_n hx hb dJ18_checkIndex_0 rfl (lv_at hl 0 rfl) ?_
  refine lv_iload_n hx hb dJ18_checkIndex_1 rfl (lv_at hl 1 rfl) ?_
  refine lv_null hx hb dJ18_checkIndex_2 ?_
  refine bq_callSi (n := 3) (As := [.int i, .int (Int32.ofNat n), va_rf none]) (rest := []) C0 (met_pre_ck hok hn hi) (lw_S q747 q748 q130 q749) (by decide +kernel) (Nat.le_of_ble_eq_true rfl) (Nat.le_of_ble_eq_true rfl) rfl hl.1 rfl (Nat.le_of_ble_eq_true rfl) dJ18_checkIndex_3 hP hD hS (fun H locs hP hD hS => ?_)
  exact bq_iret C0 hr hP hD hS dJ18_checkIndex_6
theorem met_al_eD {b0 b1 n L q : Nat} {mc : Int32} {g : Nat → Option Nat} (hok : bq_Ok am) {i : Int32} (hi : vp_in i L) (hg : g i.toNatClampNeg = some q) : bq_M l yJ2_elementData cJ2_elementData 2 (some (.object "java/lang/Object")) 0 0 D bqCl (bqTy d) am [.ref b0, .int i] (alB d b0 b1 mc n L g) (some (.ref q)) (alB d b0 b1 mc n L g) := by
  refine bq_of hok (by decide +kernel) (Nat.le_of_ble_eq_true rfl) ?_
  intro p e s m below meth c A ls C hr hP hD hS hl
  have C0 := C
  obtain ⟨hx, hb, hown, hts, hml, hlocks, hA, hK, hm, hRf, hRl, hok⟩ := C
  have hl : lv_has ls 2 [(0, .ref b0), (1, .int i)] := hl
  refine lv_aload_n hx hb dJ2_elementData_0 rfl (lv_at hl 0 rfl) ?_
  refine gJ2_get (own := RJ2) (fs := [.int mc, .ref b1, .int (Int32.ofNat n)]) (v := .ref b1) (q0 := 0) hx hb hts hown hK hP rfl 1 (by decide) (hts _ q495) rfl rfl dJ2_elementData_1 ?_
  refine lv_iload_n hx hb dJ2_elementData_4 rfl (lv_at hl 1 rfl) ?_
  refine va_aldq hx hb hK hP 1 5 rfl rfl hi dJ2_elementData_5 ?_
  rw [hg]
  exact bq_aret C0 hr hP hD hS dJ2_elementData_6
theorem met_al_getG {b0 b1 n L q : Nat} {mc : Int32} {g : Nat → Option Nat} (hok : bq_Ok am) (hn : n ≤ L ∧ L < 2147483648) {i : Int32} (hi : vp_in i n) (hg : g i.toNatClampNeg = some q) : bq_M l yJ2_get cJ2_get 2 (some (.object "java/lang/Object")) 2 43 D bqCl (bqTy d) am [.ref b0, .int i] (alB d b0 b1 mc n L g) (some (.ref q)) (alB d b0 b1 mc n L g) := by
  refine bq_of hok (by decide +kernel) (Nat.le_of_ble_eq_true rfl) ?_
  intro p e s m below meth c A ls C hr hP hD hS hl
  have C0 := C
  obtain ⟨hx, hb, hown, hts, hml, hlocks, hA, hK, hm, hRf, hRl, hok⟩ := C
  have hl : lv_has ls 2 [(0, .ref b0), (1, .int i)] := hl
  have hi2 : vp_in i L := by
    rw [vp_in_iff] at hi ⊢
    omega
  refine lv_iload_n hx hb dJ2_get_0 rfl (lv_at hl 1 rfl) ?_
  refine lv_aload_n hx hb dJ2_get_1 rfl (lv_at hl 0 rfl) ?_
  refine gJ2_get (own := RJ2) (fs := [.int mc, .ref b1, .int (Int32.ofNat n)]) (v := .int (Int32.ofNat n)) (q0 := 0) hx hb hts hown hK hP rfl 2 (by decide) (hts _ q496) rfl rfl dJ2_get_2 ?_
  refine bq_callSi (n := 2) (As := [.int i, .int (Int32.ofNat n)]) (rest := []) C0 (met_obj_ck hok (by omega) hi) (lw_S q744 q745 q139 q746) (by decide +kernel) (Nat.le_of_ble_eq_true rfl) (Nat.le_of_ble_eq_true rfl) rfl hl.1 rfl (Nat.le_of_ble_eq_true rfl) dJ2_get_5 hP hD hS (fun H locs hP hD hS => ?_)
  refine lv_pop hx hb dJ2_get_8 rfl ?_
  refine lv_aload_n hx hb dJ2_get_9 rfl (lv_at hl 0 rfl) ?_
  refine lv_iload_n hx hb dJ2_get_10 rfl (lv_at hl 1 rfl) ?_
  refine bq_callV (w := alB d b0 b1 mc n L g) (w' := alB d b0 b1 mc n L g) (wr := []) (n := 1) (o := some (.ref q)) (As := [.int i]) (rest := []) C0 (met_al_eD hok hi2 hg) (lw_V q750 q751 q752 q117 q753) (by decide +kernel) (Nat.le_of_ble_eq_true rfl) (Nat.le_of_ble_eq_true rfl) (va_recv hK hP (ci := 14) (q0 := 0) rfl rfl) rfl hl.1 rfl (Nat.le_of_ble_eq_true rfl) dJ2_get_11 hP hD hS bq_pn (fun H locs hP hD hS => ?_)
  rw [List.append_nil] at hP hD
  exact bq_aret C0 hr hP hD hS dJ2_get_14
theorem met_al_get {mc : Int32} {L n : Nat} (hok : bq_Ok am) (hn : n ≤ L ∧ L < 2147483648) {i : Int32} (hi : vp_in i n) : bq_M l yJ2_get cJ2_get 2 (some (.object "java/lang/Object")) 2 43 D bqCl (bqTy d) am [.ref (ca 2), .int i] (List.flatten ([lsB d ca L mc n] : List va_W)) (some (.ref (ca (10 + i.toNatClampNeg)))) (List.flatten ([lsB d ca L mc n] : List va_W)) :=
  met_al_getG (g := fun k => if k < n then some (ca (10 + k)) else none) hok hn hi (if_pos (bq_inlt hi))
end BQ5
