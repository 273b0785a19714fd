set_option maxRecDepth 100000
set_option maxHeartbeats 4000000 in
theorem met_jd_bits {l : Launch} {D : va_G} {cl : List vw_C} {tys : List (ClassId × FieldType)} {am : bqAm} {w : va_W} {r : Int32} {x0 : Int32} (hok : bq_Ok am) (hf : jd_bits x0 = some r) : bq_M l yJ16_bitCount cJ16_bitCount 1 (some .int) 0 0 D cl tys am [.int x0] w (some (.int r)) w := by
  unfold jd_bits at hf
  refine bq_of hok (by decide +kernel) (Nat.le_of_ble_eq_true rfl) ?_
  intro p e s m below meth c A ls C hr hP hD hS hl
  have C0 := C
  obtain ⟨hx, hb, hown, hts, hml, hlocks, hA, hK, hm, hRf, hRl, hok⟩ := C
  have C := C0
  have hkc := Nat.zero_le 0
  have hks := Nat.zero_le 0
  have hl : lv_has ls 1 [(0, .int x0)] := hl
  refine lv_iload_n hx hb dJ16_bitCount_0 rfl (lv_at hl 0 rfl) ?_
  refine lv_iload_n hx hb dJ16_bitCount_1 rfl (lv_at hl 0 rfl) ?_
  refine lv_iconst (v := (1 : Int32)) hx hb dJ16_bitCount_2 (by decide) ?_
  refine lv_iushr hx hb dJ16_bitCount_3 rfl ?_
  refine lv_ldcw (v := (1431655765 : Int32)) hx hb hown (hts _ q937) dJ16_bitCount_4 ?_
  refine lv_iand hx hb dJ16_bitCount_7 ?_
  refine lv_isub hx hb dJ16_bitCount_8 ?_
  obtain ⟨v1, ev1, hf⟩ := bq_lts hf
  refine bq_tope ev1 ?_
  refine lv_istore_n (lv' := [(0, .int v1)]) hx hb dJ16_bitCount_9 rfl hl (by decide) rfl (fun ls hl => ?_)
  refine lv_iload_n hx hb dJ16_bitCount_10 rfl (lv_at hl 0 rfl) ?_
  refine lv_ldcw (v := (858993459 : Int32)) hx hb hown (hts _ q938) dJ16_bitCount_11 ?_
  refine lv_iand hx hb dJ16_bitCount_14 ?_
  refine lv_iload_n hx hb dJ16_bitCount_15 rfl (lv_at hl 0 rfl) ?_
  refine lv_iconst (v := (2 : Int32)) hx hb dJ16_bitCount_16 (by decide) ?_
  refine lv_iushr hx hb dJ16_bitCount_17 rfl ?_
  refine lv_ldcw (v := (858993459 : Int32)) hx hb hown (hts _ q938) dJ16_bitCount_18 ?_
  refine lv_iand hx hb dJ16_bitCount_21 ?_
  refine lv_iadd hx hb dJ16_bitCount_22 ?_
  obtain ⟨v2, ev2, hf⟩ := bq_lts hf
  refine bq_tope ev2 ?_
  refine lv_istore_n (lv' := [(0, .int v2)]) hx hb dJ16_bitCount_23 rfl hl (by decide) rfl (fun ls hl => ?_)
  refine lv_iload_n hx hb dJ16_bitCount_24 rfl (lv_at hl 0 rfl) ?_
  refine lv_iload_n hx hb dJ16_bitCount_25 rfl (lv_at hl 0 rfl) ?_
  refine lv_iconst (v := (4 : Int32)) hx hb dJ16_bitCount_26 (by decide) ?_
  refine lv_iushr hx hb dJ16_bitCount_27 rfl ?_
  refine lv_iadd hx hb dJ16_bitCount_28 ?_
  refine lv_ldcw (v := (252645135 : Int32)) hx hb hown (hts _ q939) dJ16_bitCount_29 ?_
  refine lv_iand hx hb dJ16_bitCount_32 ?_
  obtain ⟨v3, ev3, hf⟩ := bq_lts hf
  refine bq_tope ev3 ?_
  refine lv_istore_n (lv' := [(0, .int v3)]) hx hb dJ16_bitCount_33 rfl hl (by decide) rfl (fun ls hl => ?_)
  refine lv_iload_n hx hb dJ16_bitCount_34 rfl (lv_at hl 0 rfl) ?_
  refine lv_iload_n hx hb dJ16_bitCount_35 rfl (lv_at hl 0 rfl) ?_
  refine lv_bipush (v := (8 : Int32)) hx hb dJ16_bitCount_36 (by decide) ?_
  refine lv_iushr hx hb dJ16_bitCount_38 rfl ?_
  refine lv_iadd hx hb dJ16_bitCount_39 ?_
  obtain ⟨v4, ev4, hf⟩ := bq_lts hf
  refine bq_tope ev4 ?_
  refine lv_istore_n (lv' := [(0, .int v4)]) hx hb dJ16_bitCount_40 rfl hl (by decide) rfl (fun ls hl => ?_)
  refine lv_iload_n hx hb dJ16_bitCount_41 rfl (lv_at hl 0 rfl) ?_
  refine lv_iload_n hx hb dJ16_bitCount_42 rfl (lv_at hl 0 rfl) ?_
  refine lv_bipush (v := (16 : Int32)) hx hb dJ16_bitCount_43 (by decide) ?_
  refine lv_iushr hx hb dJ16_bitCount_45 rfl ?_
  refine lv_iadd hx hb dJ16_bitCount_46 ?_
  obtain ⟨v5, ev5, hf⟩ := bq_lts hf
  refine bq_tope ev5 ?_
  refine lv_istore_n (lv' := [(0, .int v5)]) hx hb dJ16_bitCount_47 rfl hl (by decide) rfl (fun ls hl => ?_)
  refine lv_iload_n hx hb dJ16_bitCount_48 rfl (lv_at hl 0 rfl) ?_
  refine lv_bipush (v := (63 : Int32)) hx hb dJ16_bitCount_49 (by decide) ?_
  refine lv_iand hx hb dJ16_bitCount_51 ?_
  obtain rfl := Option.some.inj hf
  exact bq_iret C hr hP hD hS dJ16_bitCount_52
set_option maxHeartbeats 4000000 in
theorem wk_jd_ntz_J62 {p : Program} {e : Env} {R : Room} {s : State} {m : MethodId} {args : Array Value} {below : List Frame} {meth : Method} {c : Code} {A : Nat → Prop} {l : Launch} {D : va_G} {cl : List vw_C} {tys : List (ClassId × FieldType)} {am : bqAm} {w : va_W} (C : bq_C p R s m args meth c A D cl tys am cJ16_numberOfTrailingZeros 2 RJ16 0 0) (hkc : 0 ≤ R.cells) (hks : 0 ≤ R.slots)  (hr : meth.sig.returnType = (some .int)) (x0 : Int32) (x1 : Int32) (r : Int32) (H : Heap) (locs : List Loc) :
      jd_ntz_J62 x0 x1 = some r → va_P D cl w H → va_D A w → va_S A s.heap H locs → ∀ ls : Array Slot, lv_has ls 2 [(0, .int x0), (1, .int x1)] →
      W p l e R s m args below meth c H locs 0 0 (MQ below (bq_Q D cl (some (.int r)) w A) args s 0 0 A) (F0 m 62 ls []) := by
  have C0 := C
  obtain ⟨hx, hb, hown, hts, hml, hlocks, hA, hK, hm, hRf, hRl, hok⟩ := C
  have C := C0
  intro hf hP hD hS ls hl 
  unfold jd_ntz_J62 at hf
  refine lv_iload_n hx hb dJ16_numberOfTrailingZeros_62 rfl (lv_at hl 0 rfl) ?_
  refine lv_iconst (v := (4 : Int32)) hx hb dJ16_numberOfTrailingZeros_63 (by decide) ?_
  refine lv_icmp_le (tgt := 74) hx hb dJ16_numberOfTrailingZeros_64 (by decide) (fun c6 => ?_) (fun c6 => ?_)
  · have hf := bq_ip c6 hf
    refine lv_iload_n hx hb dJ16_numberOfTrailingZeros_74 rfl (lv_at hl 1 rfl) ?_
    refine lv_iload_n hx hb dJ16_numberOfTrailingZeros_75 rfl (lv_at hl 0 rfl) ?_
    refine lv_iconst (v := (1 : Int32)) hx hb dJ16_numberOfTrailingZeros_76 (by decide) ?_
    refine lv_iushr hx hb dJ16_numberOfTrailingZeros_77 rfl ?_
    refine lv_iadd hx hb dJ16_numberOfTrailingZeros_78 ?_
    obtain rfl := Option.some.inj hf
    exact bq_iret C hr hP hD hS dJ16_numberOfTrailingZeros_79
  · have hf := bq_in c6 hf
    obtain ⟨v7, ev7, hf⟩ := bq_lts hf
    refine lv_iinc (v := v7) (lv' := [(1, .int v7), (0, .int x0)]) hx hb dJ16_numberOfTrailingZeros_67 hl (k := 1) rfl (bq_inc (by decide) ev7) (by decide) rfl (fun ls hl => ?_)
    refine lv_iload_n hx hb dJ16_numberOfTrailingZeros_70 rfl (lv_at hl 1 rfl) ?_
    refine lv_iconst (v := (2 : Int32)) hx hb dJ16_numberOfTrailingZeros_71 (by decide) ?_
    refine lv_iushr hx hb dJ16_numberOfTrailingZeros_72 rfl ?_
    obtain ⟨v8, ev8, hf⟩ := bq_lts hf
    refine bq_tope ev8 ?_
    refine lv_istore_n (lv' := [(0, .int v8), (1, .int v7)]) hx hb dJ16_numberOfTrailingZeros_73 rfl hl (by decide) rfl (fun ls hl => ?_)
    refine lv_iload_n hx hb dJ16_numberOfTrailingZeros_74 rfl (lv_at hl 1 rfl) ?_
    refine lv_iload_n hx hb dJ16_numberOfTrailingZeros_75 rfl (lv_at hl 0 rfl) ?_
    refine lv_iconst (v := (1 : Int32)) hx hb dJ16_numberOfTrailingZeros_76 (by decide) ?_
    refine lv_iushr hx hb dJ16_numberOfTrailingZeros_77 rfl ?_
    refine lv_iadd hx hb dJ16_numberOfTrailingZeros_78 ?_
    obtain rfl := Option.some.inj hf
    exact bq_iret C hr hP hD hS dJ16_numberOfTrailingZeros_79
set_option maxHeartbeats 4000000 in
theorem wk_jd_ntz_J49 {p : Program} {e : Env} {R : Room} {s : State} {m : MethodId} {args : Array Value} {below : List Frame} {meth : Method} {c : Code} {A : Nat → Prop} {l : Launch} {D : va_G} {cl : List vw_C} {tys : List (ClassId × FieldType)} {am : bqAm} {w : va_W} (C : bq_C p R s m args meth c A D cl tys am cJ16_numberOfTrailingZeros 2 RJ16 0 0) (hkc : 0 ≤ R.cells) (hks : 0 ≤ R.slots)  (hr : meth.sig.returnType = (some .int)) (x0 : Int32) (x1 : Int32) (r : Int32) (H : Heap) (locs : List Loc) :
      jd_ntz_J49 x0 x1 = some r → va_P D cl w H → va_D A w → va_S A s.heap H locs → ∀ ls : Array Slot, lv_has ls 2 [(0, .int x0), (1, .int x1)] →
      W p l e R s m args below meth c H locs 0 0 (MQ below (bq_Q D cl (some (.int r)) w A) args s 0 0 A) (F0 m 49 ls []) := by
  have C0 := C
  obtain ⟨hx, hb, hown, hts, hml, hlocks, hA, hK, hm, hRf, hRl, hok⟩ := C
  have C := C0
  intro hf hP hD hS ls hl 
  unfold jd_ntz_J49 at hf
  refine lv_iload_n hx hb dJ16_numberOfTrailingZeros_49 rfl (lv_at hl 0 rfl) ?_
  refine lv_bipush (v := (16 : Int32)) hx hb dJ16_numberOfTrailingZeros_50 (by decide) ?_
  refine lv_icmp_le (tgt := 62) hx hb dJ16_numberOfTrailingZeros_52 (by decide) (fun c5 => ?_) (fun c5 => ?_)
  · have hf := bq_ip c5 hf
    exact wk_jd_ntz_J62 C hkc hks hr _ _ _ _ _ hf hP hD hS ls (lv_sub hl [0, 1] rfl)
  · have hf := bq_in c5 hf
    obtain ⟨v9, ev9, hf⟩ := bq_lts hf
    refine lv_iinc (v := v9) (lv' := [(1, .int v9), (0, .int x0)]) hx hb dJ16_numberOfTrailingZeros_55 hl (k := 1) rfl (bq_inc (by decide) ev9) (by decide) rfl (fun ls hl => ?_)
    refine lv_iload_n hx hb dJ16_numberOfTrailingZeros_58 rfl (lv_at hl 1 rfl) ?_
    refine lv_iconst (v := (4 : Int32)) hx hb dJ16_numberOfTrailingZeros_59 (by decide) ?_
    refine lv_iushr hx hb dJ16_numberOfTrailingZeros_60 rfl ?_
    obtain ⟨v10, ev10, hf⟩ := bq_lts hf
    refine bq_tope ev10 ?_
    refine lv_istore_n (lv' := [(0, .int v10), (1, .int v9)]) hx hb dJ16_numberOfTrailingZeros_61 rfl hl (by decide) rfl (fun ls hl => ?_)
    exact wk_jd_ntz_J62 C hkc hks hr _ _ _ _ _ hf hP hD hS ls (lv_sub hl [0, 1] rfl)
set_option maxHeartbeats 4000000 in
theorem wk_jd_ntz_J34 {p : Program} {e : Env} {R : Room} {s : State} {m : MethodId} {args : Array Value} {below : List Frame} {meth : Method} {c : Code} {A : Nat → Prop} {l : Launch} {D : va_G} {cl : List vw_C} {tys : List (ClassId × FieldType)} {am : bqAm} {w : va_W} (C : bq_C p R s m args meth c A D cl tys am cJ16_numberOfTrailingZeros 2 RJ16 0 0) (hkc : 0 ≤ R.cells) (hks : 0 ≤ R.slots)  (hr : meth.sig.returnType = (some .int)) (x0 : Int32) (x1 : Int32) (r : Int32) (H : Heap) (locs : List Loc) :
      jd_ntz_J34 x0 x1 = some r → va_P D cl w H → va_D A w → va_S A s.heap H locs → ∀ ls : Array Slot, lv_has ls 2 [(0, .int x0), (1, .int x1)] →
      W p l e R s m args below meth c H locs 0 0 (MQ below (bq_Q D cl (some (.int r)) w A) args s 0 0 A) (F0 m 34 ls []) := by
  have C0 := C
  obtain ⟨hx, hb, hown, hts, hml, hlocks, hA, hK, hm, hRf, hRl, hok⟩ := C
  have C := C0
  intro hf hP hD hS ls hl 
  unfold jd_ntz_J34 at hf
  refine lv_iload_n hx hb dJ16_numberOfTrailingZeros_34 rfl (lv_at hl 0 rfl) ?_
  refine lv_sipush (v := (256 : Int32)) hx hb dJ16_numberOfTrailingZeros_35 (by decide) ?_
  refine lv_icmp_le (tgt := 49) hx hb dJ16_numberOfTrailingZeros_38 (by decide) (fun c4 => ?_) (fun c4 => ?_)
  · have hf := bq_ip c4 hf
    exact wk_jd_ntz_J49 C hkc hks hr _ _ _ _ _ hf hP hD hS ls (lv_sub hl [0, 1] rfl)
  · have hf := bq_in c4 hf
    obtain ⟨v11, ev11, hf⟩ := bq_lts hf
    refine lv_iinc (v := v11) (lv' := [(1, .int v11), (0, .int x0)]) hx hb dJ16_numberOfTrailingZeros_41 hl (k := 1) rfl (bq_inc (by decide) ev11) (by decide) rfl (fun ls hl => ?_)
    refine lv_iload_n hx hb dJ16_numberOfTrailingZeros_44 rfl (lv_at hl 1 rfl) ?_
    refine lv_bipush (v := (8 : Int32)) hx hb dJ16_numberOfTrailingZeros_45 (by decide) ?_
    refine lv_iushr hx hb dJ16_numberOfTrailingZeros_47 rfl ?_
    obtain ⟨v12, ev12, hf⟩ := bq_lts hf
    refine bq_tope ev12 ?_
    refine lv_istore_n (lv' := [(0, .int v12), (1, .int v11)]) hx hb dJ16_numberOfTrailingZeros_48 rfl hl (by decide) rfl (fun ls hl => ?_)
    exact wk_jd_ntz_J49 C hkc hks hr _ _ _ _ _ hf hP hD hS ls (lv_sub hl [0, 1] rfl)
set_option maxHeartbeats 4000000 in
theorem met_jd_ntz {l : Launch} {D : va_G} {cl : List vw_C} {tys : List (ClassId × FieldType)} {am : bqAm} {w : va_W} {r : Int32} {x0 : Int32} (hok : bq_Ok am) (hf : jd_ntz x0 = some r) : bq_M l yJ16_numberOfTrailingZeros cJ16_numberOfTrailingZeros 2 (some .int) 0 0 D cl tys am [.int x0] w (some (.int r)) w := by
  unfold jd_ntz at hf
  refine bq_of hok (by decide +kernel) (Nat.le_of_ble_eq_true rfl) ?_
  intro p e s m below meth c A ls C hr hP hD hS hl
  have C0 := C
  obtain ⟨hx, hb, hown, hts, hml, hlocks, hA, hK, hm, hRf, hRl, hok⟩ := C
  have C := C0
  have hkc := Nat.zero_le 0
  have hks := Nat.zero_le 0
  have hl : lv_has ls 2 [(0, .int x0)] := hl
  refine lv_iload_n hx hb dJ16_numberOfTrailingZeros_0 rfl (lv_at hl 0 rfl) ?_
  refine lv_iconst (v := (-1 : Int32)) hx hb dJ16_numberOfTrailingZeros_1 (by decide) ?_
  refine lv_ixor hx hb dJ16_numberOfTrailingZeros_2 ?_
  refine lv_iload_n hx hb dJ16_numberOfTrailingZeros_3 rfl (lv_at hl 0 rfl) ?_
  refine lv_iconst (v := (1 : Int32)) hx hb dJ16_numberOfTrailingZeros_4 (by decide) ?_
  refine lv_isub hx hb dJ16_numberOfTrailingZeros_5 ?_
  refine lv_iand hx hb dJ16_numberOfTrailingZeros_6 ?_
  obtain ⟨v1, ev1, hf⟩ := bq_lts hf
  refine bq_tope ev1 ?_
  refine lv_istore_n (lv' := [(0, .int v1)]) hx hb dJ16_numberOfTrailingZeros_7 rfl hl (by decide) rfl (fun ls hl => ?_)
  refine lv_iload_n hx hb dJ16_numberOfTrailingZeros_8 rfl (lv_at hl 0 rfl) ?_
  refine lv_if_gt (tgt := 17) hx hb dJ16_numberOfTrailingZeros_9 (by decide) (fun c2 => ?_) (fun c2 => ?_)
  · have hf := bq_ip c2 hf
    refine lv_iconst (v := (1 : Int32)) hx hb dJ16_numberOfTrailingZeros_17 (by decide) ?_
    refine lv_istore_n (lv' := [(1, .int (1 : Int32)), (0, .int v1)]) hx hb dJ16_numberOfTrailingZeros_18 rfl hl (by decide) rfl (fun ls hl => ?_)
    refine lv_iload_n hx hb dJ16_numberOfTrailingZeros_19 rfl (lv_at hl 1 rfl) ?_
    refine lv_ldcw (v := (65536 : Int32)) hx hb hown (hts _ q1535) dJ16_numberOfTrailingZeros_20 ?_
    refine lv_icmp_le (tgt := 34) hx hb dJ16_numberOfTrailingZeros_23 (by decide) (fun c3 => ?_) (fun c3 => ?_)
    · have hf := bq_ip c3 hf
      exact wk_jd_ntz_J34 C hkc hks hr _ _ _ _ _ hf hP hD hS ls (lv_sub hl [1, 0] rfl)
    · have hf := bq_in c3 hf
      obtain ⟨v13, ev13, hf⟩ := bq_lts hf
      refine lv_iinc (v := v13) (lv' := [(1, .int v13), (0, .int v1)]) hx hb dJ16_numberOfTrailingZeros_26 hl (k := 0) rfl (bq_inc (by decide) ev13) (by decide) rfl (fun ls hl => ?_)
      refine lv_iload_n hx hb dJ16_numberOfTrailingZeros_29 rfl (lv_at hl 1 rfl) ?_
      refine lv_bipush (v := (16 : Int32)) hx hb dJ16_numberOfTrailingZeros_30 (by decide) ?_
      refine lv_iushr hx hb dJ16_numberOfTrailingZeros_32 rfl ?_
      obtain ⟨v14, ev14, hf⟩ := bq_lts hf
      refine bq_tope ev14 ?_
      refine lv_istore_n (lv' := [(0, .int v14), (1, .int v13)]) hx hb dJ16_numberOfTrailingZeros_33 rfl hl (by decide) rfl (fun ls hl => ?_)
      exact wk_jd_ntz_J34 C hkc hks hr _ _ _ _ _ hf hP hD hS ls (lv_sub hl [0, 1] rfl)
  · have hf := bq_in c2 hf
    refine lv_iload_n hx hb dJ16_numberOfTrailingZeros_12 rfl (lv_at hl 0 rfl) ?_
    refine lv_bipush (v := (32 : Int32)) hx hb dJ16_numberOfTrailingZeros_13 (by decide) ?_
    refine lv_iand hx hb dJ16_numberOfTrailingZeros_15 ?_
    obtain rfl := Option.some.inj hf
    exact bq_iret C hr hP hD hS dJ16_numberOfTrailingZeros_16
set_option maxHeartbeats 4000000 in
theorem met_co_cells {l : Launch} {D : va_G} {am : bqAm} {X vE sE : Nat → Nat} {d : Nat → ClassId} {ca : Nat → Nat} {dy fa : Option Nat} {κ : bqS} {r : Int32} (hok : bq_Ok am) (hamb : bq_Amb am X vE sE) (hf : co_cells κ = some r) : bq_M l yX2_cells cX2_cells 1 (some .int) 0 0 D bqCl (bqTy d) am [.ref (ca 0)] (List.flatten ([coB d ca dy fa κ] : List va_W)) (some (.int r)) (List.flatten ([coB d ca dy fa κ] : List va_W)) := by
  unfold co_cells at hf
  refine bq_of hok (by decide +kernel) (Nat.le_of_ble_eq_true rfl) ?_
  intro p e s m below meth c A ls C hr hP hD hS hl
  have C0 := C
  obtain ⟨hx, hb, hown, hts, hml, hlocks, hA, hK, hm, hRf, hRl, hok⟩ := C
  have C := C0
  have hkc := Nat.zero_le 0
  have hks := Nat.zero_le 0
  have hl : lv_has ls 1 [(0, .ref (ca 0))] := hl
  refine lv_aload_n hx hb dX2_cells_0 rfl (lv_at hl 0 rfl) ?_
  refine gX2_get (own := RX2) (fs := (coF ca dy fa κ)) (v := .int (κ 0 0)) hx hb hts hown hK hP (q0 := 0) rfl 0 (Nat.le_of_ble_eq_true rfl) (hts _ q529) rfl dX2_cells_1 ?_
  refine lv_aload_n hx hb dX2_cells_4 rfl (lv_at hl 0 rfl) ?_
  refine gX2_get (own := RX2) (fs := (coF ca dy fa κ)) (v := .int (κ 0 1)) hx hb hts hown hK hP (q0 := 0) rfl 1 (Nat.le_of_ble_eq_true rfl) (hts _ q534) rfl dX2_cells_5 ?_
  refine lv_imul hx hb dX2_cells_8 ?_
  obtain rfl := Option.some.inj hf
  exact bq_iret C hr hP hD hS dX2_cells_9
set_option maxHeartbeats 4000000 in
theorem met_co_steps {l : Launch} {D : va_G} {am : bqAm} {X vE sE : Nat → Nat} {d : Nat → ClassId} {ca : Nat → Nat} {dy fa : Option Nat} {κ : bqS} {r : Int32} {x1 : Int32} {x2 : Int32} (hok : bq_Ok am) (hamb : bq_Amb am X vE sE) (hf : co_steps κ x1 x2 = some r) : bq_M l yX2_steps cX2_steps 3 (some .int) 1 60 D bqCl (bqTy d) am [.ref (ca 0), .int x1, .int x2] (List.flatten ([coB d ca dy fa κ] : List va_W)) (some (.int r)) (List.flatten ([coB d ca dy fa κ] : List va_W)) := by
  unfold co_steps at hf
  refine bq_of hok (by decide +kernel) (Nat.le_of_ble_eq_true rfl) ?_
  intro p e s m below meth c A ls C hr hP hD hS hl
  have C0 := C
  obtain ⟨hx, hb, hown, hts, hml, hlocks, hA, hK, hm, hRf, hRl, hok⟩ := C
  have C := C0
  have hkc := Nat.zero_le 0
  have hks := Nat.zero_le 0
  have hl : lv_has ls 3 [(0, .ref (ca 0)), (1, .int x1), (2, .int x2)] := hl
  refine lv_iload_n hx hb dX2_steps_0 rfl (lv_at hl 1 rfl) ?_
  refine lv_aload_n hx hb dX2_steps_1 rfl (lv_at hl 0 rfl) ?_
  refine gX2_get (own := RX2) (fs := (coF ca dy fa κ)) (v := .int (κ 0 0)) hx hb hts hown hK hP (q0 := 0) rfl 0 (Nat.le_of_ble_eq_true rfl) (hts _ q529) rfl dX2_steps_2 ?_
  obtain ⟨h1, hf⟩ := bq_nzs hf
  refine lv_irem hx hb dX2_steps_5 h1 ?_
  refine lv_iload_n hx hb dX2_steps_6 rfl (lv_at hl 2 rfl) ?_
  refine lv_aload_n hx hb dX2_steps_7 rfl (lv_at hl 0 rfl) ?_
  refine gX2_get (own := RX2) (fs := (coF ca dy fa κ)) (v := .int (κ 0 0)) hx hb hts hown hK hP (q0 := 0) rfl 0 (Nat.le_of_ble_eq_true rfl) (hts _ q529) rfl dX2_steps_8 ?_
  obtain ⟨h2, hf⟩ := bq_nzs hf
  refine lv_irem hx hb dX2_steps_11 h2 ?_
  refine lv_isub hx hb dX2_steps_12 ?_
  refine va_mabs hx hb (hml.trans hl.1.symm) hown (hts _ q872) (hts _ q873) (hts _ q127) (hts _ q874) (Nat.le_trans (Nat.le_of_ble_eq_true rfl) hRf) (Nat.le_trans (Nat.le_of_ble_eq_true rfl) hRl) hkc hks dX2_steps_13 ?_
  refine lv_iload_n hx hb dX2_steps_16 rfl (lv_at hl 1 rfl) ?_
  refine lv_aload_n hx hb dX2_steps_17 rfl (lv_at hl 0 rfl) ?_
  refine gX2_get (own := RX2) (fs := (coF ca dy fa κ)) (v := .int (κ 0 0)) hx hb hts hown hK hP (q0 := 0) rfl 0 (Nat.le_of_ble_eq_true rfl) (hts _ q529) rfl dX2_steps_18 ?_
  obtain ⟨h3, hf⟩ := bq_nzs hf
  refine lv_idiv hx hb dX2_steps_21 h3 ?_
  refine lv_iload_n hx hb dX2_steps_22 rfl (lv_at hl 2 rfl) ?_
  refine lv_aload_n hx hb dX2_steps_23 rfl (lv_at hl 0 rfl) ?_
  refine gX2_get (own := RX2) (fs := (coF ca dy fa κ)) (v := .int (κ 0 0)) hx hb hts hown hK hP (q0 := 0) rfl 0 (Nat.le_of_ble_eq_true rfl) (hts _ q529) rfl dX2_steps_24 ?_
  obtain ⟨h4, hf⟩ := bq_nzs hf
  refine lv_idiv hx hb dX2_steps_27 h4 ?_
  refine lv_isub hx hb dX2_steps_28 ?_
  refine va_mabs hx hb (hml.trans hl.1.symm) hown (hts _ q872) (hts _ q873) (hts _ q127) (hts _ q874) (Nat.le_trans (Nat.le_of_ble_eq_true rfl) hRf) (Nat.le_trans (Nat.le_of_ble_eq_true rfl) hRl) hkc hks dX2_steps_29 ?_
  refine lv_iadd hx hb dX2_steps_32 ?_
  obtain rfl := Option.some.inj hf
  exact bq_iret C hr hP hD hS dX2_steps_33
set_option maxHeartbeats 4000000 in
theorem met_vi_sees {l : Launch} {D : va_G} {am : bqAm} {X vE sE : Nat → Nat} {d : Nat → ClassId} {ca : Nat → Nat} {ν : bqS} {ν' : bqS} {j : Nat} {x2 : Int32} (hok : bq_Ok am) (hamb : bq_Amb am X vE sE) (hj : j < 6) (hf : vi_sees ν j x2 = some ν') : bq_M l yX3_sees cX3_sees 3 none 1 60 D bqCl (bqTy d) am [.ref (ca 4), .ref (vE j), .int x2] (List.flatten ([viB d ca ν] : List va_W)) none (List.flatten ([viB d ca ν'] : List va_W)) := by
  unfold vi_sees at hf
  refine bq_of hok (by decide +kernel) (Nat.le_of_ble_eq_true rfl) ?_
  intro p e s m below meth c A ls C hr hP hD hS hl
  have C0 := C
  obtain ⟨hx, hb, hown, hts, hml, hlocks, hA, hK, hm, hRf, hRl, hok⟩ := C
  have C := C0
  have hkc := Nat.zero_le 0
  have hks := Nat.zero_le 0
  have hl : lv_has ls 3 [(0, .ref (ca 4)), (1, .ref (vE j)), (2, .int x2)] := hl
  refine lv_aload_n hx hb dX3_sees_0 rfl (lv_at hl 0 rfl) ?_
  refine gX3_get (own := RX3) (fs := (viF ca)) (v := .ref (ca 5)) hx hb hts hown hK hP (q0 := 0) rfl 0 (Nat.le_of_ble_eq_true rfl) (hts _ q524) rfl dX3_sees_1 ?_
  refine lv_aload_n hx hb dX3_sees_4 rfl (lv_at hl 1 rfl) ?_
  refine bq_callOrd (rest := [.ref (ca 5)]) C hkc hks hok hamb hj q881 (Nat.le_of_ble_eq_true rfl) (Nat.le_of_ble_eq_true rfl) hl.1 (Nat.le_of_ble_eq_true rfl) dX3_sees_5 hP hD hS (fun H locs hP hD hS => ?_)
  refine lv_iload_n hx hb dX3_sees_8 rfl (lv_at hl 2 rfl) ?_
  obtain ⟨h1, hf⟩ := bq_cks hf
  obtain ⟨ν2, eν2, hf⟩ := bq_lts hf
  refine bq_ist (j := ((Int32.ofNat j).toNatClampNeg)) (f := ν 1) (ws' := (List.flatten ([viB d ca (bq_up ν 1 ((Int32.ofNat j).toNatClampNeg) x2)] : List va_W))) hx hb hK hP hD hS 1 rfl rfl h1 rfl rfl dX3_sees_9 (fun H locs hP hD hS => ?_)
  rw [← eν2] at hP hD
  obtain rfl := Option.some.inj hf
  exact bq_vret C hr hP hD hS dX3_sees_10
set_option maxHeartbeats 4000000 in
theorem met_st_isPeg {l : Launch} {D : va_G} {am : bqAm} {X vE sE : Nat → Nat} {d : Nat → ClassId} {sa : Nat → Nat} {σ : bqS} {r : Int32} {x1 : Int32} (hok : bq_Ok am) (hamb : bq_Amb am X vE sE) (hf : st_isPeg σ x1 = some r) : bq_M l yX6_isPeg cX6_isPeg 2 (some .boolean) 0 0 D bqCl (bqTy d) am [.ref (sa 0), .int x1] (List.flatten ([stB d sa σ] : List va_W)) (some (.int r)) (List.flatten ([stB d sa σ] : List va_W)) := by
  unfold st_isPeg at hf
  refine bq_of hok (by decide +kernel) (Nat.le_of_ble_eq_true rfl) ?_
  intro p e s m below meth c A ls C hr hP hD hS hl
  have C0 := C
  obtain ⟨hx, hb, hown, hts, hml, hlocks, hA, hK, hm, hRf, hRl, hok⟩ := C
  have C := C0
  have hkc := Nat.zero_le 0
  have hks := Nat.zero_le 0
  have hl : lv_has ls 2 [(0, .ref (sa 0)), (1, .int x1)] := hl
  refine lv_aload_n hx hb dX6_isPeg_0 rfl (lv_at hl 0 rfl) ?_
  refine gX6_get (own := RX6) (fs := (stF sa σ)) (v := .int (σ 0 7)) hx hb hts hown hK hP (q0 := 0) rfl 7 (Nat.le_of_ble_eq_true rfl) (hts _ q612) rfl dX6_isPeg_1 ?_
  refine lv_iload_n hx hb dX6_isPeg_4 rfl (lv_at hl 1 rfl) ?_
  refine lv_ishr hx hb dX6_isPeg_5 ?_
  refine lv_iconst (v := (1 : Int32)) hx hb dX6_isPeg_6 (by decide) ?_
  refine lv_iand hx hb dX6_isPeg_7 ?_
  refine lv_iconst (v := (1 : Int32)) hx hb dX6_isPeg_8 (by decide) ?_
  refine lv_icmp_ne (tgt := 16) hx hb dX6_isPeg_9 (by decide) (fun c1 => ?_) (fun c1 => ?_)
  · have hf := bq_in c1 hf
    refine lv_iconst (v := (0 : Int32)) hx hb dX6_isPeg_16 (by decide) ?_
    obtain rfl := Option.some.inj hf
    exact bq_zret C hr (by decide) hP hD hS dX6_isPeg_17
  · have hf := bq_ip c1 hf
    refine lv_iconst (v := (1 : Int32)) hx hb dX6_isPeg_12 (by decide) ?_
    refine lv_goto (tgt := 17) hx hb dX6_isPeg_13 (by decide) ?_
    obtain rfl := Option.some.inj hf
    exact bq_zret C hr (by decide) hP hD hS dX6_isPeg_17
set_option maxHeartbeats 4000000 in
theorem met_st_isResting {l : Launch} {D : va_G} {am : bqAm} {X vE sE : Nat → Nat} {d : Nat → ClassId} {sa : Nat → Nat} {σ : bqS} {r : Int32} {x1 : Int32} (hok : bq_Ok am) (hamb : bq_Amb am X vE sE) (hf : st_isResting σ x1 = some r) : bq_M l yX6_isResting cX6_isResting 2 (some .boolean) 0 0 D bqCl (bqTy d) am [.ref (sa 0), .int x1] (List.flatten ([stB d sa σ] : List va_W)) (some (.int r)) (List.flatten ([stB d sa σ] : List va_W)) := by
  unfold st_isResting at hf
  refine bq_of hok (by decide +kernel) (Nat.le_of_ble_eq_true rfl) ?_
  intro p e s m below meth c A ls C hr hP hD hS hl
  have C0 := C
  obtain ⟨hx, hb, hown, hts, hml, hlocks, hA, hK, hm, hRf, hRl, hok⟩ := C
  have C := C0
  have hkc := Nat.zero_le 0
  have hks := Nat.zero_le 0
  have hl : lv_has ls 2 [(0, .ref (sa 0)), (1, .int x1)] := hl
  refine lv_aload_n hx hb dX6_isResting_0 rfl (lv_at hl 0 rfl) ?_
  refine gX6_get (own := RX6) (fs := (stF sa σ)) (v := .int (σ 0 6)) hx hb hts hown hK hP (q0 := 0) rfl 6 (Nat.le_of_ble_eq_true rfl) (hts _ q610) rfl dX6_isResting_1 ?_
  refine lv_iload_n hx hb dX6_isResting_4 rfl (lv_at hl 1 rfl) ?_
  refine lv_ishr hx hb dX6_isResting_5 ?_
  refine lv_iconst (v := (1 : Int32)) hx hb dX6_isResting_6 (by decide) ?_
  refine lv_iand hx hb dX6_isResting_7 ?_
  refine lv_iconst (v := (1 : Int32)) hx hb dX6_isResting_8 (by decide) ?_
  refine lv_icmp_ne (tgt := 16) hx hb dX6_isResting_9 (by decide) (fun c1 => ?_) (fun c1 => ?_)
  · have hf := bq_in c1 hf
    refine lv_iconst (v := (0 : Int32)) hx hb dX6_isResting_16 (by decide) ?_
    obtain rfl := Option.some.inj hf
    exact bq_zret C hr (by decide) hP hD hS dX6_isResting_17
  · have hf := bq_ip c1 hf
    refine lv_iconst (v := (1 : Int32)) hx hb dX6_isResting_12 (by decide) ?_
    refine lv_goto (tgt := 17) hx hb dX6_isResting_13 (by decide) ?_
    obtain rfl := Option.some.inj hf
    exact bq_zret C hr (by decide) hP hD hS dX6_isResting_17
set_option maxHeartbeats 4000000 in
theorem met_st_takes {l : Launch} {D : va_G} {am : bqAm} {X vE sE : Nat → Nat} {d : Nat → ClassId} {sa : Nat → Nat} {σ : bqS} {σ' : bqS} {x1 : Int32} {x2 : Int32} (hok : bq_Ok am) (hamb : bq_Amb am X vE sE) (hf : st_takes σ x1 x2 = some σ') : bq_M l yX6_takes cX6_takes 3 none 1 60 D bqCl (bqTy d) am [.ref (sa 0), .int x1, .int x2] (List.flatten ([stB d sa σ] : List va_W)) none (List.flatten ([stB d sa σ'] : List va_W)) := by
  unfold st_takes at hf
  refine bq_of hok (by decide +kernel) (Nat.le_of_ble_eq_true rfl) ?_
  intro p e s m below meth c A ls C hr hP hD hS hl
  have C0 := C
  obtain ⟨hx, hb, hown, hts, hml, hlocks, hA, hK, hm, hRf, hRl, hok⟩ := C
  have C := C0
  have hkc := Nat.zero_le 0
  have hks := Nat.zero_le 0
  have hl : lv_has ls 3 [(0, .ref (sa 0)), (1, .int x1), (2, .int x2)] := hl
  refine lv_aload_n hx hb dX6_takes_0 rfl (lv_at hl 0 rfl) ?_
  refine lv_iload_n hx hb dX6_takes_1 rfl (lv_at hl 1 rfl) ?_
  obtain ⟨v1, hg, hf⟩ := bq_b1s hf
  refine bq_cV (bs := [stB d sa σ]) (bc := [stB d sa σ]) (br := []) (bc' := [stB d sa σ]) (bs' := [stB d sa σ]) (As := [.int x1]) (rest := []) (o := (some (.int v1))) C hkc hks (met_st_isPeg hok hamb hg) (bq_pm [0] rfl rfl rfl) (bq_pm [0] rfl rfl rfl) (lw_V q732 q733 q734 q138 q735) (hd_X6_isPeg) (Nat.le_of_ble_eq_true rfl) (Nat.le_of_ble_eq_true rfl) (va_recv hK hP (ci := 5) (q0 := 0) rfl rfl) rfl hl.1 rfl (Nat.le_of_ble_eq_true rfl) dX6_takes_2 hP hD hS (fun H locs hP hD hS => ?_)
  refine lv_if_ne (tgt := 27) hx hb dX6_takes_5 (by decide) (fun c2 => ?_) (fun c2 => ?_)
  · have hf := bq_in c2 hf
    obtain rfl := Option.some.inj hf
    exact bq_vret C hr hP hD hS dX6_takes_27
  · have hf := bq_ip c2 hf
    refine lv_aload_n hx hb dX6_takes_8 rfl (lv_at hl 0 rfl) ?_
    refine gX6_get (own := RX6) (fs := (stF sa σ)) (v := .ref (sa 1)) hx hb hts hown hK hP (q0 := 0) rfl 0 (Nat.le_of_ble_eq_true rfl) (hts _ q598) rfl dX6_takes_9 ?_
    refine lv_iload_n hx hb dX6_takes_12 rfl (lv_at hl 1 rfl) ?_
    refine lv_bipush (v := (99 : Int32)) hx hb dX6_takes_13 (by decide) ?_
    refine lv_aload_n hx hb dX6_takes_15 rfl (lv_at hl 0 rfl) ?_
    refine gX6_get (own := RX6) (fs := (stF sa σ)) (v := .ref (sa 1)) hx hb hts hown hK hP (q0 := 0) rfl 0 (Nat.le_of_ble_eq_true rfl) (hts _ q598) rfl dX6_takes_16 ?_
    refine lv_iload_n hx hb dX6_takes_19 rfl (lv_at hl 1 rfl) ?_
    obtain ⟨h3, hf⟩ := bq_cks hf
    refine bq_ild (j := x1.toNatClampNeg) (f := σ 1) (q := 0) hx hb hK hP 1 rfl rfl h3 rfl dX6_takes_20 ?_
    refine lv_iload_n hx hb dX6_takes_21 rfl (lv_at hl 2 rfl) ?_
    refine lv_iadd hx hb dX6_takes_22 ?_
    refine va_mmin hx hb (hml.trans hl.1.symm) hown (hts _ q915) (hts _ q298) (hts _ q127) (hts _ q299) (Nat.le_trans (Nat.le_of_ble_eq_true rfl) hRf) (Nat.le_trans (Nat.le_of_ble_eq_true rfl) hRl) hkc hks dX6_takes_23 ?_
    obtain ⟨h4, hf⟩ := bq_cks hf
    obtain ⟨σ5, eσ5, hf⟩ := bq_lts hf
    refine bq_ist (j := x1.toNatClampNeg) (f := σ 1) (ws' := (List.flatten ([stB d sa (bq_up σ 1 x1.toNatClampNeg (if ((σ 1 x1.toNatClampNeg) + x2) < (99 : Int32) then ((σ 1 x1.toNatClampNeg) + x2) else (99 : Int32)))] : List va_W))) hx hb hK hP hD hS 1 rfl rfl h4 rfl rfl dX6_takes_26 (fun H locs hP hD hS => ?_)
    rw [← eσ5] at hP hD
    obtain rfl := Option.some.inj hf
    exact bq_vret C hr hP hD hS dX6_takes_27
set_option maxHeartbeats 4000000 in
theorem wk_st_all_L4 {p : Program} {e : Env} {R : Room} {s : State} {m : MethodId} {args : Array Value} {below : List Frame} {meth : Method} {c : Code} {A : Nat → Prop} {kc ks : Nat} {Q : State → Prop} {l : Launch} {D : va_G} {am : bqAm} {X vE sE : Nat → Nat} {d : Nat → ClassId} {sa : Nat → Nat} {F : Nat} (C : bq_C p R s m args meth c A D bqCl (bqTy d) am cX6_all 4 RX6 0 0) (hkc : kc ≤ R.cells) (hks : ks ≤ R.slots) (hamb : bq_Amb am X vE sE)  {σ : bqS} :
    ∀ (k : Nat) (x1 : Int32) (x2 : Int32) (x3 : Int32) (y2 : Int32) (H : Heap) (locs : List Loc), st_all_L4 F σ k x1 x2 x3 = some y2 → va_P D bqCl (List.flatten ([stB d sa σ] : List va_W)) H → va_D A (List.flatten ([stB d sa σ] : List va_W)) → va_S A s.heap H locs → ∀ ls : Array Slot, lv_has ls 4 [(0, .ref (sa 0)), (1, .int x1), (2, .int x2), (3, .int x3)] →
      (∀ (H : Heap) (locs : List Loc), va_P D bqCl (List.flatten ([stB d sa σ] : List va_W)) H → va_D A (List.flatten ([stB d sa σ] : List va_W)) → va_S A s.heap H locs → ∀ ls : Array Slot, lv_has ls 4 [(2, .int y2)] → W p l e R s m args below meth c H locs kc ks Q (F0 m 24 ls [])) →
      W p l e R s m args below meth c H locs kc ks Q (F0 m 4 ls []) := by
  have C0 := C
  obtain ⟨hx, hb, hown, hts, hml, hlocks, hA, hK, hm, hRf, hRl, hok⟩ := C
  have C := C0
  intro k
  induction k with
  | zero => intro x1 x2 x3 y2 H locs hf
            cases hf
  | succ k ih =>
    intro x1 x2 x3 y2 H locs hf hP hD hS ls hl hk0
    rw [st_all_L4] at hf
    refine lv_iload_n hx hb dX6_all_4 rfl (lv_at hl 3 rfl) ?_
    refine lv_iload_n hx hb dX6_all_5 rfl (lv_at hl 1 rfl) ?_
    refine lv_icmp_ge (tgt := 24) hx hb dX6_all_6 (by decide) (fun c1 => ?_) (fun c1 => ?_)
    · have hf := bq_ip c1 hf
      obtain rfl := Option.some.inj hf
      exact hk0 _ _ hP hD hS ls (lv_sub hl [2] rfl)
    · have hf := bq_in c1 hf
      refine lv_iload_n hx hb dX6_all_9 rfl (lv_at hl 2 rfl) ?_
      refine lv_aload_n hx hb dX6_all_10 rfl (lv_at hl 0 rfl) ?_
      refine gX6_get (own := RX6) (fs := (stF sa σ)) (v := .ref (sa 1)) hx hb hts hown hK hP (q0 := 0) rfl 0 (Nat.le_of_ble_eq_true rfl) (hts _ q598) rfl dX6_all_11 ?_
      refine lv_iload_n hx hb dX6_all_14 rfl (lv_at hl 3 rfl) ?_
      obtain ⟨h2, hf⟩ := bq_cks hf
      refine bq_ild (j := x3.toNatClampNeg) (f := σ 1) (q := 0) hx hb hK hP 1 rfl rfl h2 rfl dX6_all_15 ?_
      refine lv_iadd hx hb dX6_all_16 ?_
      obtain ⟨v3, ev3, hf⟩ := bq_lts hf
      refine bq_tope ev3 ?_
      refine lv_istore_n (lv' := [(2, .int v3), (0, .ref (sa 0)), (1, .int x1), (3, .int x3)]) hx hb dX6_all_17 rfl hl (by decide) rfl (fun ls hl => ?_)
      obtain ⟨v4, ev4, hf⟩ := bq_lts hf
      refine lv_iinc (v := v4) (lv' := [(3, .int v4), (2, .int v3), (0, .ref (sa 0)), (1, .int x1)]) hx hb dX6_all_18 hl (k := 3) rfl (bq_inc (by decide) ev4) (by decide) rfl (fun ls hl => ?_)
      refine lv_goto (tgt := 4) hx hb dX6_all_21 (by decide) ?_
      exact ih _ _ _ _ _ _ hf hP hD hS ls (lv_sub hl [2, 3, 1, 0] rfl) hk0
set_option maxHeartbeats 4000000 in
theorem met_st_all {l : Launch} {D : va_G} {am : bqAm} {X vE sE : Nat → Nat} {d : Nat → ClassId} {sa : Nat → Nat} {F : Nat} {σ : bqS} {r : Int32} {x1 : Int32} (hok : bq_Ok am) (hamb : bq_Amb am X vE sE) (hf : st_all F σ x1 = some r) : bq_M l yX6_all cX6_all 4 (some .int) 0 0 D bqCl (bqTy d) am [.ref (sa 0), .int x1] (List.flatten ([stB d sa σ] : List va_W)) (some (.int r)) (List.flatten ([stB d sa σ] : List va_W)) := by
  unfold st_all at hf
  refine bq_of hok (by decide +kernel) (Nat.le_of_ble_eq_true rfl) ?_
  intro p e s m below meth c A ls C hr hP hD hS hl
  have C0 := C
  obtain ⟨hx, hb, hown, hts, hml, hlocks, hA, hK, hm, hRf, hRl, hok⟩ := C
  have C := C0
  have hkc := Nat.zero_le 0
  have hks := Nat.zero_le 0
  have hl : lv_has ls 4 [(0, .ref (sa 0)), (1, .int x1)] := hl
  refine lv_iconst (v := (0 : Int32)) hx hb dX6_all_0 (by decide) ?_
  refine lv_istore_n (lv' := [(2, .int (0 : Int32)), (0, .ref (sa 0)), (1, .int x1)]) hx hb dX6_all_1 rfl hl (by decide) rfl (fun ls hl => ?_)
  refine lv_iconst (v := (0 : Int32)) hx hb dX6_all_2 (by decide) ?_
  refine lv_istore_n (lv' := [(3, .int (0 : Int32)), (2, .int (0 : Int32)), (0, .ref (sa 0)), (1, .int x1)]) hx hb dX6_all_3 rfl hl (by decide) rfl (fun ls hl => ?_)
  obtain ⟨v5, hg, hf⟩ := bq_b1s hf
  refine wk_st_all_L4 C hkc hks hamb _ _ _ _ _ _ _ hg hP hD hS ls (lv_sub hl [2, 3, 1, 0] rfl) ?_
  · intro H locs hP hD hS ls hl
    refine lv_iload_n hx hb dX6_all_24 rfl (lv_at hl 0 rfl) ?_
    obtain rfl := Option.some.inj hf
    exact bq_iret C hr hP hD hS dX6_all_25
set_option maxHeartbeats 4000000 in
theorem wk_girl_spreads_L3 {p : Program} {e : Env} {R : Room} {s : State} {m : MethodId} {args : Array Value} {below : List Frame} {meth : Method} {c : Code} {A : Nat → Prop} {kc ks : Nat} {Q : State → Prop} {l : Launch} {D : va_G} {am : bqAm} {X vE sE : Nat → Nat} {d : Nat → ClassId} {ca sa : Nat → Nat} {dy fa : Option Nat} {F : Nat} (C : bq_C p R s m args meth c A D bqCl (bqTy d) am cX15_spreads 6 RX15 2 82) (hkc : kc ≤ R.cells) (hks : ks ≤ R.slots) (hamb : bq_Amb am X vE sE)  {κ : bqS} :
    ∀ (k : Nat) (x3 : Int32) (x4 : Int32) (x5 : Int32) (σ : bqS) (σ' : bqS) (H : Heap) (locs : List Loc), girl_spreads_L3 F κ k x3 x4 x5 σ = some σ' → va_P D bqCl (List.flatten ([stB d sa σ, coB d ca dy fa κ] : List va_W)) H → va_D A (List.flatten ([stB d sa σ, coB d ca dy fa κ] : List va_W)) → va_S A s.heap H locs → ∀ ls : Array Slot, lv_has ls 6 [(1, .ref (ca 0)), (2, .ref (sa 0)), (3, .int x3), (4, .int x4), (5, .int x5)] →
      (∀ (H : Heap) (locs : List Loc), va_P D bqCl (List.flatten ([stB d sa σ', coB d ca dy fa κ] : List va_W)) H → va_D A (List.flatten ([stB d sa σ', coB d ca dy fa κ] : List va_W)) → va_S A s.heap H locs → ∀ ls : Array Slot, lv_has ls 6 [] → W p l e R s m args below meth c H locs kc ks Q (F0 m 39 ls [])) →
      W p l e R s m args below meth c H locs kc ks Q (F0 m 3 ls []) := by
  have C0 := C
  obtain ⟨hx, hb, hown, hts, hml, hlocks, hA, hK, hm, hRf, hRl, hok⟩ := C
  have C := C0
  intro k
  induction k with
  | zero => intro x3 x4 x5 σ σ' H locs hf
            cases hf
  | succ k ih =>
    intro x3 x4 x5 σ σ' H locs hf hP hD hS ls hl hk0
    rw [girl_spreads_L3] at hf
    refine lv_iload hx hb dX15_spreads_3 (lv_at hl 4 rfl) ?_
    refine lv_aload_n hx hb dX15_spreads_5 rfl (lv_at hl 0 rfl) ?_
    obtain ⟨v1, hg, hf⟩ := bq_b1s hf
    refine bq_cV (bs := [stB d sa σ, coB d ca dy fa κ]) (bc := [coB d ca dy fa κ]) (br := [stB d sa σ]) (bc' := [coB d ca dy fa κ]) (bs' := [stB d sa σ, coB d ca dy fa κ]) (As := []) (rest := [.int x5]) (o := (some (.int v1))) C hkc hks (met_co_cells hok hamb hg) (bq_pm [1, 0] rfl rfl rfl) (bq_pm [1, 0] rfl rfl rfl) (lw_V q931 q865 q866 q114 q867) (hd_X2_cells) (Nat.le_of_ble_eq_true rfl) (Nat.le_of_ble_eq_true rfl) (va_recv hK hP (ci := 2) (q0 := 5) rfl rfl) rfl hl.1 rfl (Nat.le_of_ble_eq_true rfl) dX15_spreads_6 hP hD hS (fun H locs hP hD hS => ?_)
    refine lv_icmp_ge (tgt := 39) hx hb dX15_spreads_9 (by decide) (fun c2 => ?_) (fun c2 => ?_)
    · have hf := bq_ip c2 hf
      obtain rfl := Option.some.inj hf
      exact hk0 _ _ hP hD hS ls (lv_sub hl [] rfl)
    · have hf := bq_in c2 hf
      refine lv_aload_n hx hb dX15_spreads_12 rfl (lv_at hl 0 rfl) ?_
      refine lv_iload_n hx hb dX15_spreads_13 rfl (lv_at hl 2 rfl) ?_
      refine lv_iload hx hb dX15_spreads_14 (lv_at hl 4 rfl) ?_
      obtain ⟨v3, hg, hf⟩ := bq_b1s hf
      refine bq_cV (bs := [stB d sa σ, coB d ca dy fa κ]) (bc := [coB d ca dy fa κ]) (br := [stB d sa σ]) (bc' := [coB d ca dy fa κ]) (bs' := [stB d sa σ, coB d ca dy fa κ]) (As := [.int x3, .int x5]) (rest := []) (o := (some (.int v3))) C hkc hks (met_co_steps hok hamb hg) (bq_pm [1, 0] rfl rfl rfl) (bq_pm [1, 0] rfl rfl rfl) (lw_V q932 q869 q870 q114 q871) (hd_X2_steps) (Nat.le_of_ble_eq_true rfl) (Nat.le_of_ble_eq_true rfl) (va_recv hK hP (ci := 2) (q0 := 5) rfl rfl) rfl hl.1 rfl (Nat.le_of_ble_eq_true rfl) dX15_spreads_16 hP hD hS (fun H locs hP hD hS => ?_)
      refine lv_iconst (v := (1 : Int32)) hx hb dX15_spreads_19 (by decide) ?_
      refine lv_icmp_ne (tgt := 33) hx hb dX15_spreads_20 (by decide) (fun c4 => ?_) (fun c4 => ?_)
      · have hf := bq_in c4 hf
        obtain ⟨v5, ev5, hf⟩ := bq_lts hf
        refine lv_iinc (v := v5) (lv' := [(5, .int v5), (1, .ref (ca 0)), (2, .ref (sa 0)), (3, .int x3), (4, .int x4)]) hx hb dX15_spreads_33 hl (k := 4) rfl (bq_inc (by decide) ev5) (by decide) rfl (fun ls hl => ?_)
        refine lv_goto (tgt := 3) hx hb dX15_spreads_36 (by decide) ?_
        exact ih _ _ _ _ _ _ _ hf hP hD hS ls (lv_sub hl [1, 2, 3, 4, 0] rfl) hk0
      · have hf := bq_ip c4 hf
        refine lv_aload_n hx hb dX15_spreads_23 rfl (lv_at hl 1 rfl) ?_
        refine lv_iload hx hb dX15_spreads_24 (lv_at hl 4 rfl) ?_
        refine lv_iload hx hb dX15_spreads_26 (lv_at hl 3 rfl) ?_
        refine lv_iconst (v := (2 : Int32)) hx hb dX15_spreads_28 (by decide) ?_
        refine lv_idiv hx hb dX15_spreads_29 (by decide) ?_
        obtain ⟨σ6, hg, hf⟩ := bq_b1s hf
        refine bq_cV (bs := [stB d sa σ, coB d ca dy fa κ]) (bc := [stB d sa σ]) (br := [coB d ca dy fa κ]) (bc' := [stB d sa σ6]) (bs' := [stB d sa σ6, coB d ca dy fa κ]) (As := [.int x5, .int (x4 / (2 : Int32))]) (rest := []) (o := none) C hkc hks (met_st_takes hok hamb hg) (bq_pm [0, 1] rfl rfl rfl) (bq_pm [0, 1] rfl rfl rfl) (lw_V q933 q918 q919 q138 q920) (hd_X6_takes) (Nat.le_of_ble_eq_true rfl) (Nat.le_of_ble_eq_true rfl) (va_recv hK hP (ci := 5) (q0 := 0) rfl rfl) rfl hl.1 rfl (Nat.le_of_ble_eq_true rfl) dX15_spreads_30 hP hD hS (fun H locs hP hD hS => ?_)
        obtain ⟨v7, ev7, hf⟩ := bq_lts hf
        refine lv_iinc (v := v7) (lv' := [(5, .int v7), (1, .ref (ca 0)), (2, .ref (sa 0)), (3, .int x3), (4, .int x4)]) hx hb dX15_spreads_33 hl (k := 4) rfl (bq_inc (by decide) ev7) (by decide) rfl (fun ls hl => ?_)
        refine lv_goto (tgt := 3) hx hb dX15_spreads_36 (by decide) ?_
        exact ih _ _ _ _ _ _ _ hf hP hD hS ls (lv_sub hl [1, 2, 3, 4, 0] rfl) hk0
set_option maxHeartbeats 4000000 in
theorem met_girl_spreads {l : Launch} {D : va_G} {am : bqAm} {X vE sE : Nat → Nat} {d : Nat → ClassId} {ca sa : Nat → Nat} {dy fa : Option Nat} {F : Nat} {gq : Nat} {σ : bqS} {κ : bqS} {σ' : bqS} {x3 : Int32} {x4 : Int32} (hok : bq_Ok am) (hamb : bq_Amb am X vE sE) (hf : girl_spreads F σ κ x3 x4 = some σ') : bq_M l yX15_spreads cX15_spreads 6 none 2 82 D bqCl (bqTy d) am [.ref gq, .ref (ca 0), .ref (sa 0), .int x3, .int x4] (List.flatten ([stB d sa σ, coB d ca dy fa κ] : List va_W)) none (List.flatten ([stB d sa σ', coB d ca dy fa κ] : List va_W)) := by
  unfold girl_spreads at hf
  refine bq_of hok (by decide +kernel) (Nat.le_of_ble_eq_true rfl) ?_
  intro p e s m below meth c A ls C hr hP hD hS hl
  have C0 := C
  obtain ⟨hx, hb, hown, hts, hml, hlocks, hA, hK, hm, hRf, hRl, hok⟩ := C
  have C := C0
  have hkc := Nat.zero_le 0
  have hks := Nat.zero_le 0
  have hl : lv_has ls 6 [(0, .ref gq), (1, .ref (ca 0)), (2, .ref (sa 0)), (3, .int x3), (4, .int x4)] := hl
  refine lv_iconst (v := (0 : Int32)) hx hb dX15_spreads_0 (by decide) ?_
  refine lv_istore (lv' := [(5, .int (0 : Int32)), (0, .ref gq), (1, .ref (ca 0)), (2, .ref (sa 0)), (3, .int x3), (4, .int x4)]) hx hb dX15_spreads_1 hl (by decide) rfl (fun ls hl => ?_)
  obtain ⟨σ8, hg, hf⟩ := bq_b1s hf
  refine wk_girl_spreads_L3 C hkc hks hamb _ _ _ _ _ _ _ _ hg hP hD hS ls (lv_sub hl [2, 3, 4, 5, 0] rfl) ?_
  · intro H locs hP hD hS ls hl
    obtain rfl := Option.some.inj hf
    exact bq_vret C hr hP hD hS dX15_spreads_39
set_option maxHeartbeats 4000000 in
theorem wk_old_spreads_L12 {p : Program} {e : Env} {R : Room} {s : State} {m : MethodId} {args : Array Value} {below : List Frame} {meth : Method} {c : Code} {A : Nat → Prop} {kc ks : Nat} {Q : State → Prop} {l : Launch} {D : va_G} {am : bqAm} {X vE sE : Nat → Nat} {d : Nat → ClassId} {ca sa : Nat → Nat} {dy fa : Option Nat} {F : Nat} (C : bq_C p R s m args meth c A D bqCl (bqTy d) am cX16_spreads 7 RX16 2 82) (hkc : kc ≤ R.cells) (hks : ks ≤ R.slots) (hamb : bq_Amb am X vE sE)  {κ : bqS} :
    ∀ (k : Nat) (x5 : Int32) (x6 : Int32) (σ : bqS) (σ' : bqS) (H : Heap) (locs : List Loc), old_spreads_L12 F κ k x5 x6 σ = some σ' → va_P D bqCl (List.flatten ([stB d sa σ, coB d ca dy fa κ] : List va_W)) H → va_D A (List.flatten ([stB d sa σ, coB d ca dy fa κ] : List va_W)) → va_S A s.heap H locs → ∀ ls : Array Slot, lv_has ls 7 [(1, .ref (ca 0)), (2, .ref (sa 0)), (5, .int x5), (6, .int x6)] →
      (∀ (H : Heap) (locs : List Loc), va_P D bqCl (List.flatten ([stB d sa σ', coB d ca dy fa κ] : List va_W)) H → va_D A (List.flatten ([stB d sa σ', coB d ca dy fa κ] : List va_W)) → va_S A s.heap H locs → ∀ ls : Array Slot, lv_has ls 7 [] → W p l e R s m args below meth c H locs kc ks Q (F0 m 47 ls [])) →
      W p l e R s m args below meth c H locs kc ks Q (F0 m 12 ls []) := by
  have C0 := C
  obtain ⟨hx, hb, hown, hts, hml, hlocks, hA, hK, hm, hRf, hRl, hok⟩ := C
  have C := C0
  intro k
  induction k with
  | zero => intro x5 x6 σ σ' H locs hf
            cases hf
  | succ k ih =>
    intro x5 x6 σ σ' H locs hf hP hD hS ls hl hk0
    rw [old_spreads_L12] at hf
    refine lv_iload hx hb dX16_spreads_12 (lv_at hl 3 rfl) ?_
    refine lv_aload_n hx hb dX16_spreads_14 rfl (lv_at hl 0 rfl) ?_
    obtain ⟨v2, hg, hf⟩ := bq_b1s hf
    refine bq_cV (bs := [stB d sa σ, coB d ca dy fa κ]) (bc := [coB d ca dy fa κ]) (br := [stB d sa σ]) (bc' := [coB d ca dy fa κ]) (bs' := [stB d sa σ, coB d ca dy fa κ]) (As := []) (rest := [.int x6]) (o := (some (.int v2))) C hkc hks (met_co_cells hok hamb hg) (bq_pm [1, 0] rfl rfl rfl) (bq_pm [1, 0] rfl rfl rfl) (lw_V q928 q865 q866 q114 q867) (hd_X2_cells) (Nat.le_of_ble_eq_true rfl) (Nat.le_of_ble_eq_true rfl) (va_recv hK hP (ci := 2) (q0 := 5) rfl rfl) rfl hl.1 rfl (Nat.le_of_ble_eq_true rfl) dX16_spreads_15 hP hD hS (fun H locs hP hD hS => ?_)
    refine lv_icmp_ge (tgt := 47) hx hb dX16_spreads_18 (by decide) (fun c3 => ?_) (fun c3 => ?_)
    · have hf := bq_ip c3 hf
      obtain rfl := Option.some.inj hf
      exact hk0 _ _ hP hD hS ls (lv_sub hl [] rfl)
    · have hf := bq_in c3 hf
      refine lv_iload hx hb dX16_spreads_21 (lv_at hl 2 rfl) ?_
      refine lv_iconst (v := (2 : Int32)) hx hb dX16_spreads_23 (by decide) ?_
      refine lv_idiv hx hb dX16_spreads_24 (by decide) ?_
      obtain ⟨v4, ev4, hf⟩ := bq_lts hf
      refine bq_tope ev4 ?_
      refine lv_istore (lv' := [(5, .int v4), (1, .ref (ca 0)), (2, .ref (sa 0)), (6, .int x6)]) hx hb dX16_spreads_25 hl (by decide) rfl (fun ls hl => ?_)
      refine lv_aload_n hx hb dX16_spreads_27 rfl (lv_at hl 2 rfl) ?_
      refine lv_iload hx hb dX16_spreads_28 (lv_at hl 3 rfl) ?_
      refine lv_iload hx hb dX16_spreads_30 (lv_at hl 0 rfl) ?_
      obtain ⟨σ5, hg, hf⟩ := bq_b1s hf
      refine bq_cV (bs := [stB d sa σ, coB d ca dy fa κ]) (bc := [stB d sa σ]) (br := [coB d ca dy fa κ]) (bc' := [stB d sa σ5]) (bs' := [stB d sa σ5, coB d ca dy fa κ]) (As := [.int x6, .int v4]) (rest := []) (o := none) C hkc hks (met_st_takes hok hamb hg) (bq_pm [0, 1] rfl rfl rfl) (bq_pm [0, 1] rfl rfl rfl) (lw_V q929 q918 q919 q138 q920) (hd_X6_takes) (Nat.le_of_ble_eq_true rfl) (Nat.le_of_ble_eq_true rfl) (va_recv hK hP (ci := 5) (q0 := 0) rfl rfl) rfl hl.1 rfl (Nat.le_of_ble_eq_true rfl) dX16_spreads_32 hP hD hS (fun H locs hP hD hS => ?_)
      refine lv_iload hx hb dX16_spreads_35 (lv_at hl 3 rfl) ?_
      refine lv_aload_n hx hb dX16_spreads_37 rfl (lv_at hl 1 rfl) ?_
      refine gX2_getN (own := RX16) (host := "BlueBag") (fs := (coF ca dy fa κ)) (v := .int (κ 0 0)) hx hb hts hown hK hP (q0 := 5) rfl 0 (Nat.le_of_ble_eq_true rfl) (bq_nF hamb hm 24 rfl) rfl dX16_spreads_38 ?_
      refine lv_iadd hx hb dX16_spreads_41 ?_
      obtain ⟨v6, ev6, hf⟩ := bq_lts hf
      refine bq_tope ev6 ?_
      refine lv_istore (lv' := [(6, .int v6), (5, .int v4), (1, .ref (ca 0)), (2, .ref (sa 0))]) hx hb dX16_spreads_42 hl (by decide) rfl (fun ls hl => ?_)
      refine lv_goto (tgt := 12) hx hb dX16_spreads_44 (by decide) ?_
      exact ih _ _ _ _ _ _ hf hP hD hS ls (lv_sub hl [2, 3, 1, 0] rfl) hk0
set_option maxHeartbeats 4000000 in
theorem met_old_spreads {l : Launch} {D : va_G} {am : bqAm} {X vE sE : Nat → Nat} {d : Nat → ClassId} {ca sa : Nat → Nat} {dy fa : Option Nat} {F : Nat} {gq : Nat} {σ : bqS} {κ : bqS} {σ' : bqS} {x3 : Int32} {x4 : Int32} (hok : bq_Ok am) (hamb : bq_Amb am X vE sE) (hf : old_spreads F σ κ x3 x4 = some σ') : bq_M l yX16_spreads cX16_spreads 7 none 2 82 D bqCl (bqTy d) am [.ref gq, .ref (ca 0), .ref (sa 0), .int x3, .int x4] (List.flatten ([stB d sa σ, coB d ca dy fa κ] : List va_W)) none (List.flatten ([stB d sa σ', coB d ca dy fa κ] : List va_W)) := by
  unfold old_spreads at hf
  refine bq_of hok (by decide +kernel) (Nat.le_of_ble_eq_true rfl) ?_
  intro p e s m below meth c A ls C hr hP hD hS hl
  have C0 := C
  obtain ⟨hx, hb, hown, hts, hml, hlocks, hA, hK, hm, hRf, hRl, hok⟩ := C
  have C := C0
  have hkc := Nat.zero_le 0
  have hks := Nat.zero_le 0
  have hl : lv_has ls 7 [(0, .ref gq), (1, .ref (ca 0)), (2, .ref (sa 0)), (3, .int x3), (4, .int x4)] := hl
  refine lv_iload hx hb dX16_spreads_0 (lv_at hl 4 rfl) ?_
  refine lv_istore (lv' := [(5, .int x4), (0, .ref gq), (1, .ref (ca 0)), (2, .ref (sa 0)), (3, .int x3), (4, .int x4)]) hx hb dX16_spreads_2 hl (by decide) rfl (fun ls hl => ?_)
  refine lv_iload_n hx hb dX16_spreads_4 rfl (lv_at hl 4 rfl) ?_
  refine lv_aload_n hx hb dX16_spreads_5 rfl (lv_at hl 2 rfl) ?_
  refine gX2_getN (own := RX16) (host := "BlueBag") (fs := (coF ca dy fa κ)) (v := .int (κ 0 0)) hx hb hts hown hK hP (q0 := 5) rfl 0 (Nat.le_of_ble_eq_true rfl) (bq_nF hamb hm 24 rfl) rfl dX16_spreads_6 ?_
  refine lv_iadd hx hb dX16_spreads_9 ?_
  obtain ⟨v1, ev1, hf⟩ := bq_lts hf
  refine bq_tope ev1 ?_
  refine lv_istore (lv' := [(6, .int v1), (5, .int x4), (0, .ref gq), (1, .ref (ca 0)), (2, .ref (sa 0)), (3, .int x3), (4, .int x4)]) hx hb dX16_spreads_10 hl (by decide) rfl (fun ls hl => ?_)
  obtain ⟨σ7, hg, hf⟩ := bq_b1s hf
  refine wk_old_spreads_L12 C hkc hks hamb _ _ _ _ _ _ _ hg hP hD hS ls (lv_sub hl [3, 4, 1, 0] rfl) ?_
  · intro H locs hP hD hS ls hl
    obtain rfl := Option.some.inj hf
    exact bq_vret C hr hP hD hS dX16_spreads_47
set_option maxHeartbeats 4000000 in
theorem met_st_like {l : Launch} {D : va_G} {am : bqAm} {X vE sE : Nat → Nat} {d : Nat → ClassId} {sa ta : Nat → Nat} {σ : bqS} {τ : bqS} {σ' : bqS} (hok : bq_Ok am) (hamb : bq_Amb am X vE sE) (hf : st_like σ τ = some σ') : bq_M l yX6_like cX6_like 2 none 1 60 D bqCl (bqTy d) am [.ref (sa 0), .ref (ta 0)] (List.flatten ([stB d sa σ, stB d ta τ] : List va_W)) none (List.flatten ([stB d sa σ', stB d ta τ] : List va_W)) := by
  unfold st_like at hf
  refine bq_of hok (by decide +kernel) (Nat.le_of_ble_eq_true rfl) ?_
  intro p e s m below meth c A ls C hr hP hD hS hl
  have C0 := C
  obtain ⟨hx, hb, hown, hts, hml, hlocks, hA, hK, hm, hRf, hRl, hok⟩ := C
  have C := C0
  have hkc := Nat.zero_le 0
  have hks := Nat.zero_le 0
  have hl : lv_has ls 2 [(0, .ref (sa 0)), (1, .ref (ta 0))] := hl
  refine lv_aload_n hx hb dX6_like_0 rfl (lv_at hl 1 rfl) ?_
  refine gX6_get (own := RX6) (fs := (stF ta τ)) (v := .ref (ta 1)) hx hb hts hown hK hP (q0 := 5) rfl 0 (Nat.le_of_ble_eq_true rfl) (hts _ q598) rfl dX6_like_1 ?_
  refine lv_iconst (v := (0 : Int32)) hx hb dX6_like_4 (by decide) ?_
  refine lv_aload_n hx hb dX6_like_5 rfl (lv_at hl 0 rfl) ?_
  refine gX6_get (own := RX6) (fs := (stF sa σ)) (v := .ref (sa 1)) hx hb hts hown hK hP (q0 := 0) rfl 0 (Nat.le_of_ble_eq_true rfl) (hts _ q598) rfl dX6_like_6 ?_
  refine lv_iconst (v := (0 : Int32)) hx hb dX6_like_9 (by decide) ?_
  refine lv_bipush (v := (30 : Int32)) hx hb dX6_like_10 (by decide) ?_
  obtain ⟨σ1, eσ1, hf⟩ := bq_lts hf
  refine bq_acopy (u := 30) (v := 0) (f := τ 1) (g := σ 1) (ws' := (List.flatten ([stB d sa (va_up σ 1 (va_cpy (τ 1) (σ 1) 0 0 30)), stB d ta τ] : List va_W))) hx hb (hml.trans hl.1.symm) hown (hts _ q839) (hts _ q302) (hts _ q301) (hts _ q129) hK hP hD hS 6 1 rfl rfl rfl (by decide) (by decide) (by decide) (by decide) (by decide) (by decide) (Nat.le_trans (Nat.le_of_ble_eq_true rfl) hRf) (Nat.le_trans (by decide +kernel) hRl) rfl dX6_like_12 (fun H locs hP hD hS => ?_)
  rw [← eσ1] at hP hD
  refine lv_aload_n hx hb dX6_like_15 rfl (lv_at hl 1 rfl) ?_
  refine gX6_get (own := RX6) (fs := (stF ta τ)) (v := .ref (ta 2)) hx hb hts hown hK hP (q0 := 5) rfl 1 (Nat.le_of_ble_eq_true rfl) (hts _ q600) rfl dX6_like_16 ?_
  refine lv_iconst (v := (0 : Int32)) hx hb dX6_like_19 (by decide) ?_
  refine lv_aload_n hx hb dX6_like_20 rfl (lv_at hl 0 rfl) ?_
  refine gX6_get (own := RX6) (fs := (stF sa σ1)) (v := .ref (sa 2)) hx hb hts hown hK hP (q0 := 0) rfl 1 (Nat.le_of_ble_eq_true rfl) (hts _ q600) rfl dX6_like_21 ?_
  refine lv_iconst (v := (0 : Int32)) hx hb dX6_like_24 (by decide) ?_
  refine lv_bipush (v := (6 : Int32)) hx hb dX6_like_25 (by decide) ?_
  obtain ⟨σ2, eσ2, hf⟩ := bq_lts hf
  refine bq_acopy (u := 6) (v := 0) (f := τ 2) (g := σ1 2) (ws' := (List.flatten ([stB d sa (va_up σ1 2 (va_cpy (τ 2) (σ1 2) 0 0 6)), stB d ta τ] : List va_W))) hx hb (hml.trans hl.1.symm) hown (hts _ q839) (hts _ q302) (hts _ q301) (hts _ q129) hK hP hD hS 7 2 rfl rfl rfl (by decide) (by decide) (by decide) (by decide) (by decide) (by decide) (Nat.le_trans (Nat.le_of_ble_eq_true rfl) hRf) (Nat.le_trans (by decide +kernel) hRl) rfl dX6_like_27 (fun H locs hP hD hS => ?_)
  rw [← eσ2] at hP hD
  refine lv_aload_n hx hb dX6_like_30 rfl (lv_at hl 1 rfl) ?_
  refine gX6_get (own := RX6) (fs := (stF ta τ)) (v := .ref (ta 3)) hx hb hts hown hK hP (q0 := 5) rfl 2 (Nat.le_of_ble_eq_true rfl) (hts _ q602) rfl dX6_like_31 ?_
  refine lv_iconst (v := (0 : Int32)) hx hb dX6_like_34 (by decide) ?_
  refine lv_aload_n hx hb dX6_like_35 rfl (lv_at hl 0 rfl) ?_
  refine gX6_get (own := RX6) (fs := (stF sa σ2)) (v := .ref (sa 3)) hx hb hts hown hK hP (q0 := 0) rfl 2 (Nat.le_of_ble_eq_true rfl) (hts _ q602) rfl dX6_like_36 ?_
  refine lv_iconst (v := (0 : Int32)) hx hb dX6_like_39 (by decide) ?_
  refine lv_bipush (v := (6 : Int32)) hx hb dX6_like_40 (by decide) ?_
  obtain ⟨σ3, eσ3, hf⟩ := bq_lts hf
  refine bq_acopy (u := 6) (v := 0) (f := τ 3) (g := σ2 3) (ws' := (List.flatten ([stB d sa (va_up σ2 3 (va_cpy (τ 3) (σ2 3) 0 0 6)), stB d ta τ] : List va_W))) hx hb (hml.trans hl.1.symm) hown (hts _ q839) (hts _ q302) (hts _ q301) (hts _ q129) hK hP hD hS 8 3 rfl rfl rfl (by decide) (by decide) (by decide) (by decide) (by decide) (by decide) (Nat.le_trans (Nat.le_of_ble_eq_true rfl) hRf) (Nat.le_trans (by decide +kernel) hRl) rfl dX6_like_42 (fun H locs hP hD hS => ?_)
  rw [← eσ3] at hP hD
  refine lv_aload_n hx hb dX6_like_45 rfl (lv_at hl 0 rfl) ?_
  refine lv_aload_n hx hb dX6_like_46 rfl (lv_at hl 1 rfl) ?_
  refine gX6_get (own := RX6) (fs := (stF ta τ)) (v := .int (τ 0 3)) hx hb hts hown hK hP (q0 := 5) rfl 3 (Nat.le_of_ble_eq_true rfl) (hts _ q604) rfl dX6_like_47 ?_
  obtain ⟨σ4, eσ4, hf⟩ := bq_lts hf
  refine gX6_put (own := RX6) (fs := (stF sa σ3)) (ty := .int) (ws' := (List.flatten ([stB d sa (bq_up σ3 0 3 (τ 0 3)), stB d ta τ] : List va_W))) hx hb hts hown hK hP hD hS (q0 := 0) rfl 3 (Nat.le_of_ble_eq_true rfl) (hts _ q604) rfl rfl rfl rfl (Nat.le_of_ble_eq_true rfl) rfl dX6_like_50 (fun H locs hP hD hS => ?_)
  rw [← eσ4] at hP hD
  refine lv_aload_n hx hb dX6_like_53 rfl (lv_at hl 0 rfl) ?_
  refine lv_aload_n hx hb dX6_like_54 rfl (lv_at hl 1 rfl) ?_
  refine gX6_get (own := RX6) (fs := (stF ta τ)) (v := .int (τ 0 4)) hx hb hts hown hK hP (q0 := 5) rfl 4 (Nat.le_of_ble_eq_true rfl) (hts _ q606) rfl dX6_like_55 ?_
  obtain ⟨σ5, eσ5, hf⟩ := bq_lts hf
  refine gX6_put (own := RX6) (fs := (stF sa σ4)) (ty := .int) (ws' := (List.flatten ([stB d sa (bq_up σ4 0 4 (τ 0 4)), stB d ta τ] : List va_W))) hx hb hts hown hK hP hD hS (q0 := 0) rfl 4 (Nat.le_of_ble_eq_true rfl) (hts _ q606) rfl rfl rfl rfl (Nat.le_of_ble_eq_true rfl) rfl dX6_like_58 (fun H locs hP hD hS => ?_)
  rw [← eσ5] at hP hD
  refine lv_aload_n hx hb dX6_like_61 rfl (lv_at hl 0 rfl) ?_
  refine lv_aload_n hx hb dX6_like_62 rfl (lv_at hl 1 rfl) ?_
  refine gX6_get (own := RX6) (fs := (stF ta τ)) (v := .int (τ 0 5)) hx hb hts hown hK hP (q0 := 5) rfl 5 (Nat.le_of_ble_eq_true rfl) (hts _ q608) rfl dX6_like_63 ?_
  obtain ⟨σ6, eσ6, hf⟩ := bq_lts hf
  refine gX6_put (own := RX6) (fs := (stF sa σ5)) (ty := .int) (ws' := (List.flatten ([stB d sa (bq_up σ5 0 5 (τ 0 5)), stB d ta τ] : List va_W))) hx hb hts hown hK hP hD hS (q0 := 0) rfl 5 (Nat.le_of_ble_eq_true rfl) (hts _ q608) rfl rfl rfl rfl (Nat.le_of_ble_eq_true rfl) rfl dX6_like_66 (fun H locs hP hD hS => ?_)
  rw [← eσ6] at hP hD
  refine lv_aload_n hx hb dX6_like_69 rfl (lv_at hl 0 rfl) ?_
  refine lv_aload_n hx hb dX6_like_70 rfl (lv_at hl 1 rfl) ?_
  refine gX6_get (own := RX6) (fs := (stF ta τ)) (v := .int (τ 0 6)) hx hb hts hown hK hP (q0 := 5) rfl 6 (Nat.le_of_ble_eq_true rfl) (hts _ q610) rfl dX6_like_71 ?_
  obtain ⟨σ7, eσ7, hf⟩ := bq_lts hf
  refine gX6_put (own := RX6) (fs := (stF sa σ6)) (ty := .int) (ws' := (List.flatten ([stB d sa (bq_up σ6 0 6 (τ 0 6)), stB d ta τ] : List va_W))) hx hb hts hown hK hP hD hS (q0 := 0) rfl 6 (Nat.le_of_ble_eq_true rfl) (hts _ q610) rfl rfl rfl rfl (Nat.le_of_ble_eq_true rfl) rfl dX6_like_74 (fun H locs hP hD hS => ?_)
  rw [← eσ7] at hP hD
  refine lv_aload_n hx hb dX6_like_77 rfl (lv_at hl 0 rfl) ?_
  refine lv_aload_n hx hb dX6_like_78 rfl (lv_at hl 1 rfl) ?_
  refine gX6_get (own := RX6) (fs := (stF ta τ)) (v := .int (τ 0 7)) hx hb hts hown hK hP (q0 := 5) rfl 7 (Nat.le_of_ble_eq_true rfl) (hts _ q612) rfl dX6_like_79 ?_
  obtain ⟨σ8, eσ8, hf⟩ := bq_lts hf
  refine gX6_put (own := RX6) (fs := (stF sa σ7)) (ty := .int) (ws' := (List.flatten ([stB d sa (bq_up σ7 0 7 (τ 0 7)), stB d ta τ] : List va_W))) hx hb hts hown hK hP hD hS (q0 := 0) rfl 7 (Nat.le_of_ble_eq_true rfl) (hts _ q612) rfl rfl rfl rfl (Nat.le_of_ble_eq_true rfl) rfl dX6_like_82 (fun H locs hP hD hS => ?_)
  rw [← eσ8] at hP hD
  obtain rfl := Option.some.inj hf
  exact bq_vret C hr hP hD hS dX6_like_85
set_option maxHeartbeats 4000000 in
theorem wk_st_sees_L5 {p : Program} {e : Env} {R : Room} {s : State} {m : MethodId} {args : Array Value} {below : List Frame} {meth : Method} {c : Code} {A : Nat → Prop} {kc ks : Nat} {Q : State → Prop} {l : Launch} {D : va_G} {am : bqAm} {X vE sE : Nat → Nat} {d : Nat → ClassId} {ca sa : Nat → Nat} {dy fa : Option Nat} {F : Nat} (C : bq_C p R s m args meth c A D bqCl (bqTy d) am cX6_sees 5 RX6 2 82) (hkc : kc ≤ R.cells) (hks : ks ≤ R.slots) (hamb : bq_Amb am X vE sE)  {σ : bqS} {ν : bqS} {κ : bqS} :
    ∀ (k : Nat) (x2 : Int32) (x3 : Int32) (x4 : Int32) (y3 : Int32) (H : Heap) (locs : List Loc), st_sees_L5 F σ ν κ k x2 x3 x4 = some y3 → va_P D bqCl (List.flatten ([stB d sa σ, viB d ca ν, coB d ca dy fa κ] : List va_W)) H → va_D A (List.flatten ([stB d sa σ, viB d ca ν, coB d ca dy fa κ] : List va_W)) → va_S A s.heap H locs → ∀ ls : Array Slot, lv_has ls 5 [(0, .ref (sa 0)), (1, .ref (ca 0)), (2, .int x2), (3, .int x3), (4, .int x4)] →
      (∀ (H : Heap) (locs : List Loc), va_P D bqCl (List.flatten ([stB d sa σ, viB d ca ν, coB d ca dy fa κ] : List va_W)) H → va_D A (List.flatten ([stB d sa σ, viB d ca ν, coB d ca dy fa κ] : List va_W)) → va_S A s.heap H locs → ∀ ls : Array Slot, lv_has ls 5 [(0, .ref (sa 0)), (1, .ref (ca 0)), (2, .int x2), (3, .int y3)] → W p l e R s m args below meth c H locs kc ks Q (F0 m 41 ls [])) →
      W p l e R s m args below meth c H locs kc ks Q (F0 m 5 ls []) := by
  have C0 := C
  obtain ⟨hx, hb, hown, hts, hml, hlocks, hA, hK, hm, hRf, hRl, hok⟩ := C
  have C := C0
  intro k
  induction k with
  | zero => intro x2 x3 x4 y3 H locs hf
            cases hf
  | succ k ih =>
    intro x2 x3 x4 y3 H locs hf hP hD hS ls hl hk0
    rw [st_sees_L5] at hf
    refine lv_iload hx hb dX6_sees_5 (lv_at hl 4 rfl) ?_
    refine lv_aload_n hx hb dX6_sees_7 rfl (lv_at hl 1 rfl) ?_
    obtain ⟨v1, hg, hf⟩ := bq_b1s hf
    refine bq_cV (bs := [stB d sa σ, viB d ca ν, coB d ca dy fa κ]) (bc := [coB d ca dy fa κ]) (br := [stB d sa σ, viB d ca ν]) (bc' := [coB d ca dy fa κ]) (bs' := [stB d sa σ, viB d ca ν, coB d ca dy fa κ]) (As := []) (rest := [.int x4]) (o := (some (.int v1))) C hkc hks (met_co_cells hok hamb hg) (bq_pm [2, 0, 1] rfl rfl rfl) (bq_pm [1, 2, 0] rfl rfl rfl) (lw_V q864 q865 q866 q114 q867) (hd_X2_cells) (Nat.le_of_ble_eq_true rfl) (Nat.le_of_ble_eq_true rfl) (va_recv hK hP (ci := 2) (q0 := 7) rfl rfl) rfl hl.1 rfl (Nat.le_of_ble_eq_true rfl) dX6_sees_8 hP hD hS (fun H locs hP hD hS => ?_)
    refine lv_icmp_ge (tgt := 41) hx hb dX6_sees_11 (by decide) (fun c2 => ?_) (fun c2 => ?_)
    · have hf := bq_ip c2 hf
      obtain rfl := Option.some.inj hf
      exact hk0 _ _ hP hD hS ls (lv_sub hl [0, 1, 2, 3] rfl)
    · have hf := bq_in c2 hf
      refine lv_aload_n hx hb dX6_sees_14 rfl (lv_at hl 1 rfl) ?_
      refine lv_iload_n hx hb dX6_sees_15 rfl (lv_at hl 2 rfl) ?_
      refine lv_iload hx hb dX6_sees_16 (lv_at hl 4 rfl) ?_
      obtain ⟨v3, hg, hf⟩ := bq_b1s hf
      refine bq_cV (bs := [stB d sa σ, viB d ca ν, coB d ca dy fa κ]) (bc := [coB d ca dy fa κ]) (br := [stB d sa σ, viB d ca ν]) (bc' := [coB d ca dy fa κ]) (bs' := [stB d sa σ, viB d ca ν, coB d ca dy fa κ]) (As := [.int x2, .int x4]) (rest := []) (o := (some (.int v3))) C hkc hks (met_co_steps hok hamb hg) (bq_pm [2, 0, 1] rfl rfl rfl) (bq_pm [1, 2, 0] rfl rfl rfl) (lw_V q868 q869 q870 q114 q871) (hd_X2_steps) (Nat.le_of_ble_eq_true rfl) (Nat.le_of_ble_eq_true rfl) (va_recv hK hP (ci := 2) (q0 := 7) rfl rfl) rfl hl.1 rfl (Nat.le_of_ble_eq_true rfl) dX6_sees_18 hP hD hS (fun H locs hP hD hS => ?_)
      refine lv_iconst (v := (1 : Int32)) hx hb dX6_sees_21 (by decide) ?_
      refine lv_icmp_ne (tgt := 35) hx hb dX6_sees_22 (by decide) (fun c4 => ?_) (fun c4 => ?_)
      · have hf := bq_in c4 hf
        obtain ⟨v5, ev5, hf⟩ := bq_lts hf
        refine lv_iinc (v := v5) (lv' := [(4, .int v5), (0, .ref (sa 0)), (1, .ref (ca 0)), (2, .int x2), (3, .int x3)]) hx hb dX6_sees_35 hl (k := 4) rfl (bq_inc (by decide) ev5) (by decide) rfl (fun ls hl => ?_)
        refine lv_goto (tgt := 5) hx hb dX6_sees_38 (by decide) ?_
        exact ih _ _ _ _ _ _ hf hP hD hS ls (lv_sub hl [1, 2, 3, 4, 0] rfl) hk0
      · have hf := bq_ip c4 hf
        refine lv_iload_n hx hb dX6_sees_25 rfl (lv_at hl 3 rfl) ?_
        refine lv_aload_n hx hb dX6_sees_26 rfl (lv_at hl 0 rfl) ?_
        refine gX6_get (own := RX6) (fs := (stF sa σ)) (v := .ref (sa 1)) hx hb hts hown hK hP (q0 := 0) rfl 0 (Nat.le_of_ble_eq_true rfl) (hts _ q598) rfl dX6_sees_27 ?_
        refine lv_iload hx hb dX6_sees_30 (lv_at hl 4 rfl) ?_
        obtain ⟨h6, hf⟩ := bq_cks hf
        refine bq_ild (j := x4.toNatClampNeg) (f := σ 1) (q := 0) hx hb hK hP 1 rfl rfl h6 rfl dX6_sees_32 ?_
        refine lv_iadd hx hb dX6_sees_33 ?_
        obtain ⟨v7, ev7, hf⟩ := bq_lts hf
        refine bq_tope ev7 ?_
        refine lv_istore_n (lv' := [(3, .int v7), (0, .ref (sa 0)), (1, .ref (ca 0)), (2, .int x2), (4, .int x4)]) hx hb dX6_sees_34 rfl hl (by decide) rfl (fun ls hl => ?_)
        obtain ⟨v8, ev8, hf⟩ := bq_lts hf
        refine lv_iinc (v := v8) (lv' := [(4, .int v8), (3, .int v7), (0, .ref (sa 0)), (1, .ref (ca 0)), (2, .int x2)]) hx hb dX6_sees_35 hl (k := 4) rfl (bq_inc (by decide) ev8) (by decide) rfl (fun ls hl => ?_)
        refine lv_goto (tgt := 5) hx hb dX6_sees_38 (by decide) ?_
        exact ih _ _ _ _ _ _ hf hP hD hS ls (lv_sub hl [2, 3, 4, 1, 0] rfl) hk0
set_option maxHeartbeats 4000000 in
theorem met_st_sees {l : Launch} {D : va_G} {am : bqAm} {X vE sE : Nat → Nat} {d : Nat → ClassId} {ca sa : Nat → Nat} {dy fa : Option Nat} {F : Nat} {σ : bqS} {ν : bqS} {κ : bqS} {ν' : bqS} {x2 : Int32} (hok : bq_Ok am) (hamb : bq_Amb am X vE sE) (hf : st_sees F σ ν κ x2 = some ν') : bq_M l yX6_sees cX6_sees 5 (some (.object "BlueBag$View")) 2 82 D bqCl (bqTy d) am [.ref (sa 0), .ref (ca 0), .int x2] (List.flatten ([stB d sa σ, viB d ca ν, coB d ca dy fa κ] : List va_W)) (some (.ref (ca 4))) (List.flatten ([stB d sa σ, viB d ca ν', coB d ca dy fa κ] : List va_W)) := by
  unfold st_sees at hf
  refine bq_of hok (by decide +kernel) (Nat.le_of_ble_eq_true rfl) ?_
  intro p e s m below meth c A ls C hr hP hD hS hl
  have C0 := C
  obtain ⟨hx, hb, hown, hts, hml, hlocks, hA, hK, hm, hRf, hRl, hok⟩ := C
  have C := C0
  have hkc := Nat.zero_le 0
  have hks := Nat.zero_le 0
  have hl : lv_has ls 5 [(0, .ref (sa 0)), (1, .ref (ca 0)), (2, .int x2)] := hl
  refine lv_iconst (v := (0 : Int32)) hx hb dX6_sees_0 (by decide) ?_
  refine lv_istore_n (lv' := [(3, .int (0 : Int32)), (0, .ref (sa 0)), (1, .ref (ca 0)), (2, .int x2)]) hx hb dX6_sees_1 rfl hl (by decide) rfl (fun ls hl => ?_)
  refine lv_iconst (v := (0 : Int32)) hx hb dX6_sees_2 (by decide) ?_
  refine lv_istore (lv' := [(4, .int (0 : Int32)), (3, .int (0 : Int32)), (0, .ref (sa 0)), (1, .ref (ca 0)), (2, .int x2)]) hx hb dX6_sees_3 hl (by decide) rfl (fun ls hl => ?_)
  obtain ⟨v9, hg, hf⟩ := bq_b1s hf
  refine wk_st_sees_L5 C hkc hks hamb _ _ _ _ _ _ _ hg hP hD hS ls (lv_sub hl [2, 3, 4, 1, 0] rfl) ?_
  · intro H locs hP hD hS ls hl
    refine lv_aload_n hx hb dX6_sees_41 rfl (lv_at hl 1 rfl) ?_
    refine gX2_getN (own := RX6) (host := "BlueBag") (fs := (coF ca dy fa κ)) (v := .ref (ca 4)) hx hb hts hown hK hP (q0 := 7) rfl 10 (Nat.le_of_ble_eq_true rfl) (bq_nF hamb hm 40 rfl) rfl dX6_sees_42 ?_
    refine lv_astore (lv' := [(4, .ref (ca 4)), (0, .ref (sa 0)), (1, .ref (ca 0)), (2, .int x2), (3, .int v9)]) hx hb dX6_sees_45 hl (by decide) rfl (fun ls hl => ?_)
    refine lv_aload hx hb dX6_sees_47 (lv_at hl 0 rfl) ?_
    refine va_gets hx hb (bq_vE hamb hm 0 (by decide)) hS hown (hts _ q875) (fun _ h => h) dX6_sees_49 ?_
    refine lv_aload_n hx hb dX6_sees_52 rfl (lv_at hl 1 rfl) ?_
    refine gX6_get (own := RX6) (fs := (stF sa σ)) (v := .ref (sa 1)) hx hb hts hown hK hP (q0 := 0) rfl 0 (Nat.le_of_ble_eq_true rfl) (hts _ q598) rfl dX6_sees_53 ?_
    refine lv_iload_n hx hb dX6_sees_56 rfl (lv_at hl 3 rfl) ?_
    obtain ⟨h10, hf⟩ := bq_cks hf
    refine bq_ild (j := x2.toNatClampNeg) (f := σ 1) (q := 0) hx hb hK hP 1 rfl rfl h10 rfl dX6_sees_57 ?_
    obtain ⟨ν11, hg, hf⟩ := bq_b1s hf
    refine bq_cV (bs := [stB d sa σ, viB d ca ν, coB d ca dy fa κ]) (bc := [viB d ca ν]) (br := [stB d sa σ, coB d ca dy fa κ]) (bc' := [viB d ca ν11]) (bs' := [stB d sa σ, viB d ca ν11, coB d ca dy fa κ]) (As := [.ref (vE 0), .int (σ 1 x2.toNatClampNeg)]) (rest := []) (o := none) C hkc hks (met_vi_sees hok hamb (by decide) hg) (bq_pm [1, 0, 2] rfl rfl rfl) (bq_pm [1, 0, 2] rfl rfl rfl) (lw_V q877 q878 q879 q134 q880) (hd_X3_sees) (Nat.le_of_ble_eq_true rfl) (Nat.le_of_ble_eq_true rfl) (va_recv hK hP (ci := 3) (q0 := 5) rfl rfl) rfl hl.1 rfl (Nat.le_of_ble_eq_true rfl) dX6_sees_58 hP hD hS (fun H locs hP hD hS => ?_)
    refine lv_aload hx hb dX6_sees_61 (lv_at hl 0 rfl) ?_
    refine va_gets hx hb (bq_vE hamb hm 1 (by decide)) hS hown (hts _ q887) (fun _ h => h) dX6_sees_63 ?_
    refine lv_iload_n hx hb dX6_sees_66 rfl (lv_at hl 4 rfl) ?_
    obtain ⟨ν12, hg, hf⟩ := bq_b1s hf
    refine bq_cV (bs := [stB d sa σ, viB d ca ν11, coB d ca dy fa κ]) (bc := [viB d ca ν11]) (br := [stB d sa σ, coB d ca dy fa κ]) (bc' := [viB d ca ν12]) (bs' := [stB d sa σ, viB d ca ν12, coB d ca dy fa κ]) (As := [.ref (vE 1), .int v9]) (rest := []) (o := none) C hkc hks (met_vi_sees hok hamb (by decide) hg) (bq_pm [1, 0, 2] rfl rfl rfl) (bq_pm [1, 0, 2] rfl rfl rfl) (lw_V q877 q878 q879 q134 q880) (hd_X3_sees) (Nat.le_of_ble_eq_true rfl) (Nat.le_of_ble_eq_true rfl) (va_recv hK hP (ci := 3) (q0 := 5) rfl rfl) rfl hl.1 rfl (Nat.le_of_ble_eq_true rfl) dX6_sees_67 hP hD hS (fun H locs hP hD hS => ?_)
    refine lv_aload hx hb dX6_sees_70 (lv_at hl 0 rfl) ?_
    refine va_gets hx hb (bq_vE hamb hm 2 (by decide)) hS hown (hts _ q889) (fun _ h => h) dX6_sees_72 ?_
    refine lv_iload_n hx hb dX6_sees_75 rfl (lv_at hl 3 rfl) ?_
    refine lv_aload_n hx hb dX6_sees_76 rfl (lv_at hl 2 rfl) ?_
    refine gX2_getN (own := RX6) (host := "BlueBag") (fs := (coF ca dy fa κ)) (v := .int (κ 0 0)) hx hb hts hown hK hP (q0 := 7) rfl 0 (Nat.le_of_ble_eq_true rfl) (bq_nF hamb hm 41 rfl) rfl dX6_sees_77 ?_
    obtain ⟨h13, hf⟩ := bq_nzs hf
    refine lv_idiv hx hb dX6_sees_80 h13 ?_
    obtain ⟨ν14, hg, hf⟩ := bq_b1s hf
    refine bq_cV (bs := [stB d sa σ, viB d ca ν12, coB d ca dy fa κ]) (bc := [viB d ca ν12]) (br := [stB d sa σ, coB d ca dy fa κ]) (bc' := [viB d ca ν14]) (bs' := [stB d sa σ, viB d ca ν14, coB d ca dy fa κ]) (As := [.ref (vE 2), .int (x2 / (κ 0 0))]) (rest := []) (o := none) C hkc hks (met_vi_sees hok hamb (by decide) hg) (bq_pm [1, 0, 2] rfl rfl rfl) (bq_pm [1, 0, 2] rfl rfl rfl) (lw_V q877 q878 q879 q134 q880) (hd_X3_sees) (Nat.le_of_ble_eq_true rfl) (Nat.le_of_ble_eq_true rfl) (va_recv hK hP (ci := 3) (q0 := 5) rfl rfl) rfl hl.1 rfl (Nat.le_of_ble_eq_true rfl) dX6_sees_81 hP hD hS (fun H locs hP hD hS => ?_)
    refine lv_aload hx hb dX6_sees_84 (lv_at hl 0 rfl) ?_
    refine va_gets hx hb (bq_vE hamb hm 3 (by decide)) hS hown (hts _ q891) (fun _ h => h) dX6_sees_86 ?_
    refine lv_aload_n hx hb dX6_sees_89 rfl (lv_at hl 1 rfl) ?_
    refine gX6_get (own := RX6) (fs := (stF sa σ)) (v := .int (σ 0 3)) hx hb hts hown hK hP (q0 := 0) rfl 3 (Nat.le_of_ble_eq_true rfl) (hts _ q604) rfl dX6_sees_90 ?_
    obtain ⟨ν15, hg, hf⟩ := bq_b1s hf
    refine bq_cV (bs := [stB d sa σ, viB d ca ν14, coB d ca dy fa κ]) (bc := [viB d ca ν14]) (br := [stB d sa σ, coB d ca dy fa κ]) (bc' := [viB d ca ν15]) (bs' := [stB d sa σ, viB d ca ν15, coB d ca dy fa κ]) (As := [.ref (vE 3), .int (σ 0 3)]) (rest := []) (o := none) C hkc hks (met_vi_sees hok hamb (by decide) hg) (bq_pm [1, 0, 2] rfl rfl rfl) (bq_pm [1, 0, 2] rfl rfl rfl) (lw_V q877 q878 q879 q134 q880) (hd_X3_sees) (Nat.le_of_ble_eq_true rfl) (Nat.le_of_ble_eq_true rfl) (va_recv hK hP (ci := 3) (q0 := 5) rfl rfl) rfl hl.1 rfl (Nat.le_of_ble_eq_true rfl) dX6_sees_93 hP hD hS (fun H locs hP hD hS => ?_)
    refine lv_aload hx hb dX6_sees_96 (lv_at hl 0 rfl) ?_
    obtain rfl := Option.some.inj hf
    exact bq_aret C hr hP hD hS dX6_sees_98
set_option maxHeartbeats 4000000 in
theorem met_st_dyes {l : Launch} {D : va_G} {am : bqAm} {X vE sE : Nat → Nat} {d : Nat → ClassId} {ca sa : Nat → Nat} {dy fa : Option Nat} {P : va_W} {F : Nat} {E : bqE} {σ : bqS} {ν : bqS} {κ : bqS} {ν' : bqS} {r : Int32} {x2 : Int32} {x3 : Int32} (hok : bq_Ok am) (hamb : bq_Amb am X vE sE) (hE : bq_E P vE dy fa E) (hby : bq_By l D am d ca vE P 400) (hf : st_dyes F E σ ν κ x2 x3 = some (r, ν')) : bq_M l yX6_dyes cX6_dyes 6 (some .int) 801 24060 D bqCl (bqTy d) am [.ref (sa 0), .ref (ca 0), .int x2, .int x3] (List.flatten ([stB d sa σ, viB d ca ν, coB d ca dy fa κ, P] : List va_W)) (some (.int r)) (List.flatten ([stB d sa σ, viB d ca ν', coB d ca dy fa κ, P] : List va_W)) := by
  unfold st_dyes at hf
  refine bq_of hok (by decide +kernel) (Nat.le_of_ble_eq_true rfl) ?_
  intro p e s m below meth c A ls C hr hP hD hS hl
  have C0 := C
  obtain ⟨hx, hb, hown, hts, hml, hlocks, hA, hK, hm, hRf, hRl, hok⟩ := C
  have C := C0
  have hkc := Nat.zero_le 0
  have hks := Nat.zero_le 0
  have hl : lv_has ls 6 [(0, .ref (sa 0)), (1, .ref (ca 0)), (2, .int x2), (3, .int x3)] := hl
  refine lv_iconst (v := (2 : Int32)) hx hb dX6_dyes_0 (by decide) ?_
  refine lv_aload_n hx hb dX6_dyes_1 rfl (lv_at hl 0 rfl) ?_
  refine gX6_get (own := RX6) (fs := (stF sa σ)) (v := .ref (sa 3)) hx hb hts hown hK hP (q0 := 0) rfl 2 (Nat.le_of_ble_eq_true rfl) (hts _ q602) rfl dX6_dyes_2 ?_
  refine lv_iload_n hx hb dX6_dyes_5 rfl (lv_at hl 2 rfl) ?_
  obtain ⟨h1, hf⟩ := bq_cks hf
  refine bq_ild (j := x2.toNatClampNeg) (f := σ 3) (q := 0) hx hb hK hP 3 rfl rfl h1 rfl dX6_dyes_6 ?_
  refine lv_imul hx hb dX6_dyes_7 ?_
  refine lv_iconst (v := (3 : Int32)) hx hb dX6_dyes_8 (by decide) ?_
  refine lv_iadd hx hb dX6_dyes_9 ?_
  obtain ⟨v2, ev2, hf⟩ := bq_lts hf
  refine bq_tope ev2 ?_
  refine lv_istore (lv' := [(4, .int v2), (0, .ref (sa 0)), (1, .ref (ca 0)), (2, .int x2), (3, .int x3)]) hx hb dX6_dyes_10 hl (by decide) rfl (fun ls hl => ?_)
  refine lv_aload_n hx hb dX6_dyes_12 rfl (lv_at hl 2 rfl) ?_
  refine gX2_getN (own := RX6) (host := "BlueBag") (fs := (coF ca dy fa κ)) (v := va_rf dy) hx hb hts hown hK hP (q0 := 7) rfl 8 (Nat.le_of_ble_eq_true rfl) (bq_nF hamb hm 42 rfl) rfl dX6_dyes_13 ?_
  rcases bq_exc hE.1 with ⟨eD, eE⟩ | ⟨f3, q4, eD, eE, hq4⟩
  · have hf := bq_omn eE hf
    refine bq_rfn eD ?_
    refine lv_ifnullN (tgt := 66) hx hb dX6_dyes_16 (by decide) ?_
    refine lv_iconst (v := (0 : Int32)) hx hb dX6_dyes_66 (by decide) ?_
    refine lv_bipush (v := (30 : Int32)) hx hb dX6_dyes_67 (by decide) ?_
    refine lv_iload hx hb dX6_dyes_69 (lv_at hl 0 rfl) ?_
    refine va_mmin hx hb (hml.trans hl.1.symm) hown (hts _ q915) (hts _ q298) (hts _ q127) (hts _ q299) (Nat.le_trans (Nat.le_of_ble_eq_true rfl) hRf) (Nat.le_trans (Nat.le_of_ble_eq_true rfl) hRl) hkc hks dX6_dyes_71 ?_
    refine va_mmax hx hb (hml.trans hl.1.symm) hown (hts _ q916) (hts _ q280) (hts _ q127) (hts _ q281) (Nat.le_trans (Nat.le_of_ble_eq_true rfl) hRf) (Nat.le_trans (Nat.le_of_ble_eq_true rfl) hRl) hkc hks dX6_dyes_74 ?_
    obtain ⟨rfl, rfl⟩ := bq_p2 hf
    exact bq_iret C hr hP hD hS dX6_dyes_77
  · have hf := bq_oms eE hf
    refine bq_rfs eD ?_
    refine lv_ifnull hx hb dX6_dyes_16 ?_
    refine lv_aload_n hx hb dX6_dyes_19 rfl (lv_at hl 1 rfl) ?_
    refine lv_aload_n hx hb dX6_dyes_20 rfl (lv_at hl 2 rfl) ?_
    refine lv_aload_n hx hb dX6_dyes_21 rfl (lv_at hl 1 rfl) ?_
    refine gX6_get (own := RX6) (fs := (stF sa σ)) (v := .ref (sa 2)) hx hb hts hown hK hP (q0 := 0) rfl 1 (Nat.le_of_ble_eq_true rfl) (hts _ q600) rfl dX6_dyes_22 ?_
    refine lv_iload_n hx hb dX6_dyes_25 rfl (lv_at hl 3 rfl) ?_
    obtain ⟨h5, hf⟩ := bq_cks hf
    refine bq_ild (j := x2.toNatClampNeg) (f := σ 2) (q := 0) hx hb hK hP 2 rfl rfl h5 rfl dX6_dyes_26 ?_
    obtain ⟨ν6, hg, hf⟩ := bq_b1s hf
    refine bq_cV (bs := [stB d sa σ, viB d ca ν, coB d ca dy fa κ, P]) (bc := [stB d sa σ, viB d ca ν, coB d ca dy fa κ]) (br := [P]) (bc' := [stB d sa σ, viB d ca ν6, coB d ca dy fa κ]) (bs' := [stB d sa σ, viB d ca ν6, coB d ca dy fa κ, P]) (As := [.ref (ca 0), .int (σ 2 x2.toNatClampNeg)]) (rest := []) (o := (some (.ref (ca 4)))) C hkc hks (met_st_sees hok hamb hg) (bq_pm [0, 1, 2, 3] rfl rfl rfl) (bq_pm [0, 1, 2, 3] rfl rfl rfl) (lw_V q860 q862 qs8 q138 q863) (hd_X6_sees) (Nat.le_of_ble_eq_true rfl) (Nat.le_of_ble_eq_true rfl) (va_recv hK hP (ci := 5) (q0 := 0) rfl rfl) rfl hl.1 rfl (Nat.le_of_ble_eq_true rfl) dX6_dyes_27 hP hD hS (fun H locs hP hD hS => ?_)
    refine lv_astore (lv' := [(5, .ref (ca 4)), (4, .int v2), (0, .ref (sa 0)), (1, .ref (ca 0)), (2, .int x2), (3, .int x3)]) hx hb dX6_dyes_30 hl (by decide) rfl (fun ls hl => ?_)
    refine lv_aload hx hb dX6_dyes_32 (lv_at hl 0 rfl) ?_
    refine va_gets hx hb (bq_vE hamb hm 4 (by decide)) hS hown (hts _ q893) (fun _ h => h) dX6_dyes_34 ?_
    refine lv_aload_n hx hb dX6_dyes_37 rfl (lv_at hl 2 rfl) ?_
    refine gX6_get (own := RX6) (fs := (stF sa σ)) (v := .ref (sa 3)) hx hb hts hown hK hP (q0 := 0) rfl 2 (Nat.le_of_ble_eq_true rfl) (hts _ q602) rfl dX6_dyes_38 ?_
    refine lv_iload_n hx hb dX6_dyes_41 rfl (lv_at hl 4 rfl) ?_
    obtain ⟨h7, hf⟩ := bq_cks hf
    refine bq_ild (j := x2.toNatClampNeg) (f := σ 3) (q := 0) hx hb hK hP 3 rfl rfl h7 rfl dX6_dyes_42 ?_
    obtain ⟨ν8, hg, hf⟩ := bq_b1s hf
    refine bq_cV (bs := [stB d sa σ, viB d ca ν6, coB d ca dy fa κ, P]) (bc := [viB d ca ν6]) (br := [stB d sa σ, coB d ca dy fa κ, P]) (bc' := [viB d ca ν8]) (bs' := [stB d sa σ, viB d ca ν8, coB d ca dy fa κ, P]) (As := [.ref (vE 4), .int (σ 3 x2.toNatClampNeg)]) (rest := []) (o := none) C hkc hks (met_vi_sees hok hamb (by decide) hg) (bq_pm [1, 0, 2, 3] rfl rfl rfl) (bq_pm [1, 0, 2, 3] rfl rfl rfl) (lw_V q877 q878 q879 q134 q880) (hd_X3_sees) (Nat.le_of_ble_eq_true rfl) (Nat.le_of_ble_eq_true rfl) (va_recv hK hP (ci := 3) (q0 := 5) rfl rfl) rfl hl.1 rfl (Nat.le_of_ble_eq_true rfl) dX6_dyes_43 hP hD hS (fun H locs hP hD hS => ?_)
    refine lv_aload hx hb dX6_dyes_46 (lv_at hl 0 rfl) ?_
    refine va_gets hx hb (bq_vE hamb hm 5 (by decide)) hS hown (hts _ q895) (fun _ h => h) dX6_dyes_48 ?_
    refine lv_iload_n hx hb dX6_dyes_51 rfl (lv_at hl 5 rfl) ?_
    obtain ⟨ν9, hg, hf⟩ := bq_b1s hf
    refine bq_cV (bs := [stB d sa σ, viB d ca ν8, coB d ca dy fa κ, P]) (bc := [viB d ca ν8]) (br := [stB d sa σ, coB d ca dy fa κ, P]) (bc' := [viB d ca ν9]) (bs' := [stB d sa σ, viB d ca ν9, coB d ca dy fa κ, P]) (As := [.ref (vE 5), .int x3]) (rest := []) (o := none) C hkc hks (met_vi_sees hok hamb (by decide) hg) (bq_pm [1, 0, 2, 3] rfl rfl rfl) (bq_pm [1, 0, 2, 3] rfl rfl rfl) (lw_V q877 q878 q879 q134 q880) (hd_X3_sees) (Nat.le_of_ble_eq_true rfl) (Nat.le_of_ble_eq_true rfl) (va_recv hK hP (ci := 3) (q0 := 5) rfl rfl) rfl hl.1 rfl (Nat.le_of_ble_eq_true rfl) dX6_dyes_52 hP hD hS (fun H locs hP hD hS => ?_)
    refine lv_aload_n hx hb dX6_dyes_55 rfl (lv_at hl 3 rfl) ?_
    refine gX2_getN (own := RX6) (host := "BlueBag") (fs := (coF ca dy fa κ)) (v := va_rf dy) hx hb hts hown hK hP (q0 := 7) rfl 8 (Nat.le_of_ble_eq_true rfl) (bq_nF hamb hm 42 rfl) rfl dX6_dyes_56 ?_
    refine bq_rfs eD ?_
    refine lv_aload hx hb dX6_dyes_59 (lv_at hl 0 rfl) ?_
    refine bq_callBy (bs := [stB d sa σ, viB d ca ν9, coB d ca dy fa κ, P]) (br := [stB d sa σ, coB d ca dy fa κ]) (ν := ν9) (rest := []) C hkc hks hok hamb hby hq4 q897 (Nat.le_of_ble_eq_true rfl) (Nat.le_of_ble_eq_true rfl) (bq_pm [1, 3, 0, 2] rfl rfl rfl) hl.1 (Nat.le_of_ble_eq_true rfl) dX6_dyes_61 hP hD hS (fun H locs hP hD hS => ?_)
    obtain ⟨v10, ev10, hf⟩ := bq_lts hf
    refine bq_tope ev10 ?_
    refine lv_istore (lv' := [(4, .int v10), (5, .ref (ca 4)), (0, .ref (sa 0)), (1, .ref (ca 0)), (2, .int x2), (3, .int x3)]) hx hb dX6_dyes_64 hl (by decide) rfl (fun ls hl => ?_)
    refine lv_iconst (v := (0 : Int32)) hx hb dX6_dyes_66 (by decide) ?_
    refine lv_bipush (v := (30 : Int32)) hx hb dX6_dyes_67 (by decide) ?_
    refine lv_iload hx hb dX6_dyes_69 (lv_at hl 0 rfl) ?_
    refine va_mmin hx hb (hml.trans hl.1.symm) hown (hts _ q915) (hts _ q298) (hts _ q127) (hts _ q299) (Nat.le_trans (Nat.le_of_ble_eq_true rfl) hRf) (Nat.le_trans (Nat.le_of_ble_eq_true rfl) hRl) hkc hks dX6_dyes_71 ?_
    refine va_mmax hx hb (hml.trans hl.1.symm) hown (hts _ q916) (hts _ q280) (hts _ q127) (hts _ q281) (Nat.le_trans (Nat.le_of_ble_eq_true rfl) hRf) (Nat.le_trans (Nat.le_of_ble_eq_true rfl) hRl) hkc hks dX6_dyes_74 ?_
    obtain ⟨rfl, rfl⟩ := bq_p2 hf
    exact bq_iret C hr hP hD hS dX6_dyes_77
set_option maxHeartbeats 4000000 in
theorem met_st_fades {l : Launch} {D : va_G} {am : bqAm} {X vE sE : Nat → Nat} {d : Nat → ClassId} {ca sa : Nat → Nat} {dy fa : Option Nat} {P : va_W} {F : Nat} {E : bqE} {σ : bqS} {ν : bqS} {κ : bqS} {ν' : bqS} {r : Int32} {x2 : Int32} (hok : bq_Ok am) (hamb : bq_Amb am X vE sE) (hE : bq_E P vE dy fa E) (hby : bq_By l D am d ca vE P 400) (hf : st_fades F E σ ν κ x2 = some (r, ν')) : bq_M l yX6_fades cX6_fades 4 (some .int) 801 24060 D bqCl (bqTy d) am [.ref (sa 0), .ref (ca 0), .int x2] (List.flatten ([stB d sa σ, viB d ca ν, coB d ca dy fa κ, P] : List va_W)) (some (.int r)) (List.flatten ([stB d sa σ, viB d ca ν', coB d ca dy fa κ, P] : List va_W)) := by
  unfold st_fades at hf
  refine bq_of hok (by decide +kernel) (Nat.le_of_ble_eq_true rfl) ?_
  intro p e s m below meth c A ls C hr hP hD hS hl
  have C0 := C
  obtain ⟨hx, hb, hown, hts, hml, hlocks, hA, hK, hm, hRf, hRl, hok⟩ := C
  have C := C0
  have hkc := Nat.zero_le 0
  have hks := Nat.zero_le 0
  have hl : lv_has ls 4 [(0, .ref (sa 0)), (1, .ref (ca 0)), (2, .int x2)] := hl
  refine lv_aload_n hx hb dX6_fades_0 rfl (lv_at hl 1 rfl) ?_
  refine gX2_getN (own := RX6) (host := "BlueBag") (fs := (coF ca dy fa κ)) (v := va_rf fa) hx hb hts hown hK hP (q0 := 7) rfl 9 (Nat.le_of_ble_eq_true rfl) (bq_nF hamb hm 43 rfl) rfl dX6_fades_1 ?_
  rcases bq_exc hE.2 with ⟨eD, eE⟩ | ⟨f1, q2, eD, eE, hq2⟩
  · have hf := bq_omn eE hf
    refine bq_rfn eD ?_
    refine lv_ifnonnullN hx hb dX6_fades_4 ?_
    refine lv_aload_n hx hb dX6_fades_7 rfl (lv_at hl 0 rfl) ?_
    refine gX6_get (own := RX6) (fs := (stF sa σ)) (v := .ref (sa 1)) hx hb hts hown hK hP (q0 := 0) rfl 0 (Nat.le_of_ble_eq_true rfl) (hts _ q598) rfl dX6_fades_8 ?_
    refine lv_iload_n hx hb dX6_fades_11 rfl (lv_at hl 2 rfl) ?_
    obtain ⟨h3, hf⟩ := bq_cks hf
    refine bq_ild (j := x2.toNatClampNeg) (f := σ 1) (q := 0) hx hb hK hP 1 rfl rfl h3 rfl dX6_fades_12 ?_
    refine lv_iconst (v := (5 : Int32)) hx hb dX6_fades_13 (by decide) ?_
    refine lv_idiv hx hb dX6_fades_14 (by decide) ?_
    refine lv_goto (tgt := 31) hx hb dX6_fades_15 (by decide) ?_
    obtain ⟨v4, ev4, hf⟩ := bq_lts hf
    refine bq_tope ev4 ?_
    refine lv_istore_n (lv' := [(3, .int v4), (0, .ref (sa 0)), (1, .ref (ca 0)), (2, .int x2)]) hx hb dX6_fades_31 rfl hl (by decide) rfl (fun ls hl => ?_)
    refine lv_iconst (v := (0 : Int32)) hx hb dX6_fades_32 (by decide) ?_
    refine lv_aload_n hx hb dX6_fades_33 rfl (lv_at hl 1 rfl) ?_
    refine gX6_get (own := RX6) (fs := (stF sa σ)) (v := .ref (sa 1)) hx hb hts hown hK hP (q0 := 0) rfl 0 (Nat.le_of_ble_eq_true rfl) (hts _ q598) rfl dX6_fades_34 ?_
    refine lv_iload_n hx hb dX6_fades_37 rfl (lv_at hl 3 rfl) ?_
    obtain ⟨h5, hf⟩ := bq_cks hf
    refine bq_ild (j := x2.toNatClampNeg) (f := σ 1) (q := 0) hx hb hK hP 1 rfl rfl h5 rfl dX6_fades_38 ?_
    refine lv_iload_n hx hb dX6_fades_39 rfl (lv_at hl 0 rfl) ?_
    refine va_mmin hx hb (hml.trans hl.1.symm) hown (hts _ q915) (hts _ q298) (hts _ q127) (hts _ q299) (Nat.le_trans (Nat.le_of_ble_eq_true rfl) hRf) (Nat.le_trans (Nat.le_of_ble_eq_true rfl) hRl) hkc hks dX6_fades_40 ?_
    refine va_mmax hx hb (hml.trans hl.1.symm) hown (hts _ q916) (hts _ q280) (hts _ q127) (hts _ q281) (Nat.le_trans (Nat.le_of_ble_eq_true rfl) hRf) (Nat.le_trans (Nat.le_of_ble_eq_true rfl) hRl) hkc hks dX6_fades_43 ?_
    obtain ⟨rfl, rfl⟩ := bq_p2 hf
    exact bq_iret C hr hP hD hS dX6_fades_46
  · have hf := bq_oms eE hf
    refine bq_rfs eD ?_
    refine lv_ifnonnull (tgt := 18) hx hb dX6_fades_4 (by decide) ?_
    refine lv_aload_n hx hb dX6_fades_18 rfl (lv_at hl 1 rfl) ?_
    refine gX2_getN (own := RX6) (host := "BlueBag") (fs := (coF ca dy fa κ)) (v := va_rf fa) hx hb hts hown hK hP (q0 := 7) rfl 9 (Nat.le_of_ble_eq_true rfl) (bq_nF hamb hm 43 rfl) rfl dX6_fades_19 ?_
    refine bq_rfs eD ?_
    refine lv_aload_n hx hb dX6_fades_22 rfl (lv_at hl 0 rfl) ?_
    refine lv_aload_n hx hb dX6_fades_23 rfl (lv_at hl 1 rfl) ?_
    refine lv_iload_n hx hb dX6_fades_24 rfl (lv_at hl 2 rfl) ?_
    obtain ⟨ν6, hg, hf⟩ := bq_b1s hf
    refine bq_cV (bs := [stB d sa σ, viB d ca ν, coB d ca dy fa κ, P]) (bc := [stB d sa σ, viB d ca ν, coB d ca dy fa κ]) (br := [P]) (bc' := [stB d sa σ, viB d ca ν6, coB d ca dy fa κ]) (bs' := [stB d sa σ, viB d ca ν6, coB d ca dy fa κ, P]) (As := [.ref (ca 0), .int x2]) (rest := [.ref q2]) (o := (some (.ref (ca 4)))) C hkc hks (met_st_sees hok hamb hg) (bq_pm [0, 1, 2, 3] rfl rfl rfl) (bq_pm [0, 1, 2, 3] rfl rfl rfl) (lw_V q860 q862 qs8 q138 q863) (hd_X6_sees) (Nat.le_of_ble_eq_true rfl) (Nat.le_of_ble_eq_true rfl) (va_recv hK hP (ci := 5) (q0 := 0) rfl rfl) rfl hl.1 rfl (Nat.le_of_ble_eq_true rfl) dX6_fades_25 hP hD hS (fun H locs hP hD hS => ?_)
    refine bq_callBy (bs := [stB d sa σ, viB d ca ν6, coB d ca dy fa κ, P]) (br := [stB d sa σ, coB d ca dy fa κ]) (ν := ν6) (rest := []) C hkc hks hok hamb hby hq2 q897 (Nat.le_of_ble_eq_true rfl) (Nat.le_of_ble_eq_true rfl) (bq_pm [1, 3, 0, 2] rfl rfl rfl) hl.1 (Nat.le_of_ble_eq_true rfl) dX6_fades_28 hP hD hS (fun H locs hP hD hS => ?_)
    obtain ⟨v7, ev7, hf⟩ := bq_lts hf
    refine bq_tope ev7 ?_
    refine lv_istore_n (lv' := [(3, .int v7), (0, .ref (sa 0)), (1, .ref (ca 0)), (2, .int x2)]) hx hb dX6_fades_31 rfl hl (by decide) rfl (fun ls hl => ?_)
    refine lv_iconst (v := (0 : Int32)) hx hb dX6_fades_32 (by decide) ?_
    refine lv_aload_n hx hb dX6_fades_33 rfl (lv_at hl 1 rfl) ?_
    refine gX6_get (own := RX6) (fs := (stF sa σ)) (v := .ref (sa 1)) hx hb hts hown hK hP (q0 := 0) rfl 0 (Nat.le_of_ble_eq_true rfl) (hts _ q598) rfl dX6_fades_34 ?_
    refine lv_iload_n hx hb dX6_fades_37 rfl (lv_at hl 3 rfl) ?_
    obtain ⟨h8, hf⟩ := bq_cks hf
    refine bq_ild (j := x2.toNatClampNeg) (f := σ 1) (q := 0) hx hb hK hP 1 rfl rfl h8 rfl dX6_fades_38 ?_
    refine lv_iload_n hx hb dX6_fades_39 rfl (lv_at hl 0 rfl) ?_
    refine va_mmin hx hb (hml.trans hl.1.symm) hown (hts _ q915) (hts _ q298) (hts _ q127) (hts _ q299) (Nat.le_trans (Nat.le_of_ble_eq_true rfl) hRf) (Nat.le_trans (Nat.le_of_ble_eq_true rfl) hRl) hkc hks dX6_fades_40 ?_
    refine va_mmax hx hb (hml.trans hl.1.symm) hown (hts _ q916) (hts _ q280) (hts _ q127) (hts _ q281) (Nat.le_trans (Nat.le_of_ble_eq_true rfl) hRf) (Nat.le_trans (Nat.le_of_ble_eq_true rfl) hRl) hkc hks dX6_fades_43 ?_
    obtain ⟨rfl, rfl⟩ := bq_p2 hf
    exact bq_iret C hr hP hD hS dX6_fades_46
set_option maxHeartbeats 4000000 in
theorem wk_st_extreme_L5 {p : Program} {e : Env} {R : Room} {s : State} {m : MethodId} {args : Array Value} {below : List Frame} {meth : Method} {c : Code} {A : Nat → Prop} {kc ks : Nat} {Q : State → Prop} {l : Launch} {D : va_G} {am : bqAm} {X vE sE : Nat → Nat} {d : Nat → ClassId} {ca sa : Nat → Nat} {dy fa : Option Nat} {F : Nat} (C : bq_C p R s m args meth c A D bqCl (bqTy d) am cX6_extreme 5 RX6 1 21) (hkc : kc ≤ R.cells) (hks : ks ≤ R.slots) (hamb : bq_Amb am X vE sE)  {σ : bqS} {κ : bqS} :
    ∀ (k : Nat) (x2 : Int32) (x3 : Int32) (x4 : Int32) (y3 : Int32) (H : Heap) (locs : List Loc), st_extreme_L5 F σ κ k x2 x3 x4 = some y3 → va_P D bqCl (List.flatten ([stB d sa σ, coB d ca dy fa κ] : List va_W)) H → va_D A (List.flatten ([stB d sa σ, coB d ca dy fa κ] : List va_W)) → va_S A s.heap H locs → ∀ ls : Array Slot, lv_has ls 5 [(0, .ref (sa 0)), (1, .ref (ca 0)), (2, .int x2), (3, .int x3), (4, .int x4)] →
      (∀ (H : Heap) (locs : List Loc), va_P D bqCl (List.flatten ([stB d sa σ, coB d ca dy fa κ] : List va_W)) H → va_D A (List.flatten ([stB d sa σ, coB d ca dy fa κ] : List va_W)) → va_S A s.heap H locs → ∀ ls : Array Slot, lv_has ls 5 [(3, .int y3)] → W p l e R s m args below meth c H locs kc ks Q (F0 m 76 ls [])) →
      W p l e R s m args below meth c H locs kc ks Q (F0 m 5 ls []) := by
  have C0 := C
  obtain ⟨hx, hb, hown, hts, hml, hlocks, hA, hK, hm, hRf, hRl, hok⟩ := C
  have C := C0
  intro k
  induction k with
  | zero => intro x2 x3 x4 y3 H locs hf
            cases hf
  | succ k ih =>
    intro x2 x3 x4 y3 H locs hf hP hD hS ls hl hk0
    rw [st_extreme_L5] at hf
    refine lv_iload hx hb dX6_extreme_5 (lv_at hl 4 rfl) ?_
    refine lv_aload_n hx hb dX6_extreme_7 rfl (lv_at hl 1 rfl) ?_
    obtain ⟨v1, hg, hf⟩ := bq_b1s hf
    refine bq_cV (bs := [stB d sa σ, coB d ca dy fa κ]) (bc := [coB d ca dy fa κ]) (br := [stB d sa σ]) (bc' := [coB d ca dy fa κ]) (bs' := [stB d sa σ, coB d ca dy fa κ]) (As := []) (rest := [.int x4]) (o := (some (.int v1))) C hkc hks (met_co_cells hok hamb hg) (bq_pm [1, 0] rfl rfl rfl) (bq_pm [1, 0] rfl rfl rfl) (lw_V q864 q865 q866 q114 q867) (hd_X2_cells) (Nat.le_of_ble_eq_true rfl) (Nat.le_of_ble_eq_true rfl) (va_recv hK hP (ci := 2) (q0 := 5) rfl rfl) rfl hl.1 rfl (Nat.le_of_ble_eq_true rfl) dX6_extreme_8 hP hD hS (fun H locs hP hD hS => ?_)
    refine lv_icmp_ge (tgt := 76) hx hb dX6_extreme_11 (by decide) (fun c2 => ?_) (fun c2 => ?_)
    · have hf := bq_ip c2 hf
      obtain rfl := Option.some.inj hf
      exact hk0 _ _ hP hD hS ls (lv_sub hl [3] rfl)
    · have hf := bq_in c2 hf
      refine lv_aload_n hx hb dX6_extreme_14 rfl (lv_at hl 0 rfl) ?_
      refine lv_iload hx hb dX6_extreme_15 (lv_at hl 4 rfl) ?_
      obtain ⟨v3, hg, hf⟩ := bq_b1s hf
      refine bq_cV (bs := [stB d sa σ, coB d ca dy fa κ]) (bc := [stB d sa σ]) (br := [coB d ca dy fa κ]) (bc' := [stB d sa σ]) (bs' := [stB d sa σ, coB d ca dy fa κ]) (As := [.int x4]) (rest := []) (o := (some (.int v3))) C hkc hks (met_st_isPeg hok hamb hg) (bq_pm [0, 1] rfl rfl rfl) (bq_pm [0, 1] rfl rfl rfl) (lw_V q732 q733 q734 q138 q735) (hd_X6_isPeg) (Nat.le_of_ble_eq_true rfl) (Nat.le_of_ble_eq_true rfl) (va_recv hK hP (ci := 5) (q0 := 0) rfl rfl) rfl hl.1 rfl (Nat.le_of_ble_eq_true rfl) dX6_extreme_17 hP hD hS (fun H locs hP hD hS => ?_)
      refine lv_if_ne (tgt := 70) hx hb dX6_extreme_20 (by decide) (fun c4 => ?_) (fun c4 => ?_)
      · have hf := bq_in c4 hf
        obtain ⟨v5, ev5, hf⟩ := bq_lts hf
        refine lv_iinc (v := v5) (lv' := [(4, .int v5), (0, .ref (sa 0)), (1, .ref (ca 0)), (2, .int x2), (3, .int x3)]) hx hb dX6_extreme_70 hl (k := 4) rfl (bq_inc (by decide) ev5) (by decide) rfl (fun ls hl => ?_)
        refine lv_goto (tgt := 5) hx hb dX6_extreme_73 (by decide) ?_
        exact ih _ _ _ _ _ _ hf hP hD hS ls (lv_sub hl [1, 2, 3, 4, 0] rfl) hk0
      · have hf := bq_ip c4 hf
        refine lv_iload_n hx hb dX6_extreme_23 rfl (lv_at hl 3 rfl) ?_
        refine lv_iconst (v := (-1 : Int32)) hx hb dX6_extreme_24 (by decide) ?_
        refine lv_icmp_eq (tgt := 67) hx hb dX6_extreme_25 (by decide) (fun c6 => ?_) (fun c6 => ?_)
        · have hf := bq_ip c6 hf
          refine lv_iload hx hb dX6_extreme_67 (lv_at hl 4 rfl) ?_
          refine lv_istore_n (lv' := [(3, .int x4), (0, .ref (sa 0)), (1, .ref (ca 0)), (2, .int x2), (4, .int x4)]) hx hb dX6_extreme_69 rfl hl (by decide) rfl (fun ls hl => ?_)
          obtain ⟨v7, ev7, hf⟩ := bq_lts hf
          refine lv_iinc (v := v7) (lv' := [(4, .int v7), (3, .int x4), (0, .ref (sa 0)), (1, .ref (ca 0)), (2, .int x2)]) hx hb dX6_extreme_70 hl (k := 4) rfl (bq_inc (by decide) ev7) (by decide) rfl (fun ls hl => ?_)
          refine lv_goto (tgt := 5) hx hb dX6_extreme_73 (by decide) ?_
          exact ih _ _ _ _ _ _ hf hP hD hS ls (lv_sub hl [2, 3, 4, 1, 0] rfl) hk0
        · have hf := bq_in c6 hf
          refine lv_iload_n hx hb dX6_extreme_28 rfl (lv_at hl 2 rfl) ?_
          refine lv_if_eq (tgt := 51) hx hb dX6_extreme_29 (by decide) (fun c8 => ?_) (fun c8 => ?_)
          · have hf := bq_ip c8 hf
            refine lv_aload_n hx hb dX6_extreme_51 rfl (lv_at hl 0 rfl) ?_
            refine gX6_get (own := RX6) (fs := (stF sa σ)) (v := .ref (sa 1)) hx hb hts hown hK hP (q0 := 0) rfl 0 (Nat.le_of_ble_eq_true rfl) (hts _ q598) rfl dX6_extreme_52 ?_
            refine lv_iload hx hb dX6_extreme_55 (lv_at hl 4 rfl) ?_
            obtain ⟨h9, hf⟩ := bq_cks hf
            refine bq_ild (j := x4.toNatClampNeg) (f := σ 1) (q := 0) hx hb hK hP 1 rfl rfl h9 rfl dX6_extreme_57 ?_
            refine lv_aload_n hx hb dX6_extreme_58 rfl (lv_at hl 0 rfl) ?_
            refine gX6_get (own := RX6) (fs := (stF sa σ)) (v := .ref (sa 1)) hx hb hts hown hK hP (q0 := 0) rfl 0 (Nat.le_of_ble_eq_true rfl) (hts _ q598) rfl dX6_extreme_59 ?_
            refine lv_iload_n hx hb dX6_extreme_62 rfl (lv_at hl 3 rfl) ?_
            obtain ⟨h10, hf⟩ := bq_cks hf
            refine bq_ild (j := x3.toNatClampNeg) (f := σ 1) (q := 0) hx hb hK hP 1 rfl rfl h10 rfl dX6_extreme_63 ?_
            refine lv_icmp_ge (tgt := 70) hx hb dX6_extreme_64 (by decide) (fun c11 => ?_) (fun c11 => ?_)
            · have hf := bq_ip c11 hf
              obtain ⟨v12, ev12, hf⟩ := bq_lts hf
              refine lv_iinc (v := v12) (lv' := [(4, .int v12), (0, .ref (sa 0)), (1, .ref (ca 0)), (2, .int x2), (3, .int x3)]) hx hb dX6_extreme_70 hl (k := 4) rfl (bq_inc (by decide) ev12) (by decide) rfl (fun ls hl => ?_)
              refine lv_goto (tgt := 5) hx hb dX6_extreme_73 (by decide) ?_
              exact ih _ _ _ _ _ _ hf hP hD hS ls (lv_sub hl [1, 2, 3, 4, 0] rfl) hk0
            · have hf := bq_in c11 hf
              refine lv_iload hx hb dX6_extreme_67 (lv_at hl 4 rfl) ?_
              refine lv_istore_n (lv' := [(3, .int x4), (0, .ref (sa 0)), (1, .ref (ca 0)), (2, .int x2), (4, .int x4)]) hx hb dX6_extreme_69 rfl hl (by decide) rfl (fun ls hl => ?_)
              obtain ⟨v13, ev13, hf⟩ := bq_lts hf
              refine lv_iinc (v := v13) (lv' := [(4, .int v13), (3, .int x4), (0, .ref (sa 0)), (1, .ref (ca 0)), (2, .int x2)]) hx hb dX6_extreme_70 hl (k := 4) rfl (bq_inc (by decide) ev13) (by decide) rfl (fun ls hl => ?_)
              refine lv_goto (tgt := 5) hx hb dX6_extreme_73 (by decide) ?_
              exact ih _ _ _ _ _ _ hf hP hD hS ls (lv_sub hl [2, 3, 4, 1, 0] rfl) hk0
          · have hf := bq_in c8 hf
            refine lv_aload_n hx hb dX6_extreme_32 rfl (lv_at hl 0 rfl) ?_
            refine gX6_get (own := RX6) (fs := (stF sa σ)) (v := .ref (sa 1)) hx hb hts hown hK hP (q0 := 0) rfl 0 (Nat.le_of_ble_eq_true rfl) (hts _ q598) rfl dX6_extreme_33 ?_
            refine lv_iload hx hb dX6_extreme_36 (lv_at hl 4 rfl) ?_
            obtain ⟨h14, hf⟩ := bq_cks hf
            refine bq_ild (j := x4.toNatClampNeg) (f := σ 1) (q := 0) hx hb hK hP 1 rfl rfl h14 rfl dX6_extreme_38 ?_
            refine lv_aload_n hx hb dX6_extreme_39 rfl (lv_at hl 0 rfl) ?_
            refine gX6_get (own := RX6) (fs := (stF sa σ)) (v := .ref (sa 1)) hx hb hts hown hK hP (q0 := 0) rfl 0 (Nat.le_of_ble_eq_true rfl) (hts _ q598) rfl dX6_extreme_40 ?_
            refine lv_iload_n hx hb dX6_extreme_43 rfl (lv_at hl 3 rfl) ?_
            obtain ⟨h15, hf⟩ := bq_cks hf
            refine bq_ild (j := x3.toNatClampNeg) (f := σ 1) (q := 0) hx hb hK hP 1 rfl rfl h15 rfl dX6_extreme_44 ?_
            refine lv_icmp_le (tgt := 70) hx hb dX6_extreme_45 (by decide) (fun c16 => ?_) (fun c16 => ?_)
            · have hf := bq_ip c16 hf
              obtain ⟨v17, ev17, hf⟩ := bq_lts hf
              refine lv_iinc (v := v17) (lv' := [(4, .int v17), (0, .ref (sa 0)), (1, .ref (ca 0)), (2, .int x2), (3, .int x3)]) hx hb dX6_extreme_70 hl (k := 4) rfl (bq_inc (by decide) ev17) (by decide) rfl (fun ls hl => ?_)
              refine lv_goto (tgt := 5) hx hb dX6_extreme_73 (by decide) ?_
              exact ih _ _ _ _ _ _ hf hP hD hS ls (lv_sub hl [1, 2, 3, 4, 0] rfl) hk0
            · have hf := bq_in c16 hf
              refine lv_goto (tgt := 67) hx hb dX6_extreme_48 (by decide) ?_
              refine lv_iload hx hb dX6_extreme_67 (lv_at hl 4 rfl) ?_
              refine lv_istore_n (lv' := [(3, .int x4), (0, .ref (sa 0)), (1, .ref (ca 0)), (2, .int x2), (4, .int x4)]) hx hb dX6_extreme_69 rfl hl (by decide) rfl (fun ls hl => ?_)
              obtain ⟨v18, ev18, hf⟩ := bq_lts hf
              refine lv_iinc (v := v18) (lv' := [(4, .int v18), (3, .int x4), (0, .ref (sa 0)), (1, .ref (ca 0)), (2, .int x2)]) hx hb dX6_extreme_70 hl (k := 4) rfl (bq_inc (by decide) ev18) (by decide) rfl (fun ls hl => ?_)
              refine lv_goto (tgt := 5) hx hb dX6_extreme_73 (by decide) ?_
              exact ih _ _ _ _ _ _ hf hP hD hS ls (lv_sub hl [2, 3, 4, 1, 0] rfl) hk0
set_option maxHeartbeats 4000000 in
theorem met_st_extreme {l : Launch} {D : va_G} {am : bqAm} {X vE sE : Nat → Nat} {d : Nat → ClassId} {ca sa : Nat → Nat} {dy fa : Option Nat} {F : Nat} {σ : bqS} {κ : bqS} {r : Int32} {x2 : Int32} (hok : bq_Ok am) (hamb : bq_Amb am X vE sE) (hf : st_extreme F σ κ x2 = some r) : bq_M l yX6_extreme cX6_extreme 5 (some .int) 1 21 D bqCl (bqTy d) am [.ref (sa 0), .ref (ca 0), .int x2] (List.flatten ([stB d sa σ, coB d ca dy fa κ] : List va_W)) (some (.int r)) (List.flatten ([stB d sa σ, coB d ca dy fa κ] : List va_W)) := by
  unfold st_extreme at hf
  refine bq_of hok (by decide +kernel) (Nat.le_of_ble_eq_true rfl) ?_
  intro p e s m below meth c A ls C hr hP hD hS hl
  have C0 := C
  obtain ⟨hx, hb, hown, hts, hml, hlocks, hA, hK, hm, hRf, hRl, hok⟩ := C
  have C := C0
  have hkc := Nat.zero_le 0
  have hks := Nat.zero_le 0
  have hl : lv_has ls 5 [(0, .ref (sa 0)), (1, .ref (ca 0)), (2, .int x2)] := hl
  refine lv_iconst (v := (-1 : Int32)) hx hb dX6_extreme_0 (by decide) ?_
  refine lv_istore_n (lv' := [(3, .int (-1 : Int32)), (0, .ref (sa 0)), (1, .ref (ca 0)), (2, .int x2)]) hx hb dX6_extreme_1 rfl hl (by decide) rfl (fun ls hl => ?_)
  refine lv_iconst (v := (0 : Int32)) hx hb dX6_extreme_2 (by decide) ?_
  refine lv_istore (lv' := [(4, .int (0 : Int32)), (3, .int (-1 : Int32)), (0, .ref (sa 0)), (1, .ref (ca 0)), (2, .int x2)]) hx hb dX6_extreme_3 hl (by decide) rfl (fun ls hl => ?_)
  obtain ⟨v19, hg, hf⟩ := bq_b1s hf
  refine wk_st_extreme_L5 C hkc hks hamb _ _ _ _ _ _ _ hg hP hD hS ls (lv_sub hl [2, 3, 4, 1, 0] rfl) ?_
  · intro H locs hP hD hS ls hl
    refine lv_iload_n hx hb dX6_extreme_76 rfl (lv_at hl 0 rfl) ?_
    obtain rfl := Option.some.inj hf
    exact bq_iret C hr hP hD hS dX6_extreme_77
set_option maxHeartbeats 4000000 in
theorem met_st_uneven {l : Launch} {D : va_G} {am : bqAm} {X vE sE : Nat → Nat} {d : Nat → ClassId} {ca sa : Nat → Nat} {dy fa : Option Nat} {F : Nat} {σ : bqS} {κ : bqS} {r : Int32} (hok : bq_Ok am) (hamb : bq_Amb am X vE sE) (hf : st_uneven F σ κ = some r) : bq_M l yX6_uneven cX6_uneven 2 (some .int) 2 45 D bqCl (bqTy d) am [.ref (sa 0), .ref (ca 0)] (List.flatten ([stB d sa σ, coB d ca dy fa κ] : List va_W)) (some (.int r)) (List.flatten ([stB d sa σ, coB d ca dy fa κ] : List va_W)) := by
  unfold st_uneven at hf
  refine bq_of hok (by decide +kernel) (Nat.le_of_ble_eq_true rfl) ?_
  intro p e s m below meth c A ls C hr hP hD hS hl
  have C0 := C
  obtain ⟨hx, hb, hown, hts, hml, hlocks, hA, hK, hm, hRf, hRl, hok⟩ := C
  have C := C0
  have hkc := Nat.zero_le 0
  have hks := Nat.zero_le 0
  have hl : lv_has ls 2 [(0, .ref (sa 0)), (1, .ref (ca 0))] := hl
  refine lv_aload_n hx hb dX6_uneven_0 rfl (lv_at hl 0 rfl) ?_
  refine lv_aload_n hx hb dX6_uneven_1 rfl (lv_at hl 1 rfl) ?_
  refine lv_iconst (v := (1 : Int32)) hx hb dX6_uneven_2 (by decide) ?_
  obtain ⟨v1, hg, hf⟩ := bq_b1s hf
  refine bq_cV (bs := [stB d sa σ, coB d ca dy fa κ]) (bc := [stB d sa σ, coB d ca dy fa κ]) (br := []) (bc' := [stB d sa σ, coB d ca dy fa κ]) (bs' := [stB d sa σ, coB d ca dy fa κ]) (As := [.ref (ca 0), .int (1 : Int32)]) (rest := []) (o := (some (.int v1))) C hkc hks (met_st_extreme hok hamb hg) (bq_pm [0, 1] rfl rfl rfl) (bq_pm [0, 1] rfl rfl rfl) (lw_V q975 q976 q977 q138 q978) (hd_X6_extreme) (Nat.le_of_ble_eq_true rfl) (Nat.le_of_ble_eq_true rfl) (va_recv hK hP (ci := 5) (q0 := 0) rfl rfl) rfl hl.1 rfl (Nat.le_of_ble_eq_true rfl) dX6_uneven_3 hP hD hS (fun H locs hP hD hS => ?_)
  refine lv_iconst (v := (-1 : Int32)) hx hb dX6_uneven_6 (by decide) ?_
  refine lv_icmp_ne (tgt := 14) hx hb dX6_uneven_7 (by decide) (fun c2 => ?_) (fun c2 => ?_)
  · have hf := bq_in c2 hf
    refine lv_aload_n hx hb dX6_uneven_14 rfl (lv_at hl 0 rfl) ?_
    refine gX6_get (own := RX6) (fs := (stF sa σ)) (v := .ref (sa 1)) hx hb hts hown hK hP (q0 := 0) rfl 0 (Nat.le_of_ble_eq_true rfl) (hts _ q598) rfl dX6_uneven_15 ?_
    refine lv_aload_n hx hb dX6_uneven_18 rfl (lv_at hl 0 rfl) ?_
    refine lv_aload_n hx hb dX6_uneven_19 rfl (lv_at hl 1 rfl) ?_
    refine lv_iconst (v := (1 : Int32)) hx hb dX6_uneven_20 (by decide) ?_
    obtain ⟨v3, hg, hf⟩ := bq_b1s hf
    refine bq_cV (bs := [stB d sa σ, coB d ca dy fa κ]) (bc := [stB d sa σ, coB d ca dy fa κ]) (br := []) (bc' := [stB d sa σ, coB d ca dy fa κ]) (bs' := [stB d sa σ, coB d ca dy fa κ]) (As := [.ref (ca 0), .int (1 : Int32)]) (rest := [.ref (sa 1)]) (o := (some (.int v3))) C hkc hks (met_st_extreme hok hamb hg) (bq_pm [0, 1] rfl rfl rfl) (bq_pm [0, 1] rfl rfl rfl) (lw_V q975 q976 q977 q138 q978) (hd_X6_extreme) (Nat.le_of_ble_eq_true rfl) (Nat.le_of_ble_eq_true rfl) (va_recv hK hP (ci := 5) (q0 := 0) rfl rfl) rfl hl.1 rfl (Nat.le_of_ble_eq_true rfl) dX6_uneven_21 hP hD hS (fun H locs hP hD hS => ?_)
    obtain ⟨h4, hf⟩ := bq_cks hf
    refine bq_ild (j := v3.toNatClampNeg) (f := σ 1) (q := 0) hx hb hK hP 1 rfl rfl h4 rfl dX6_uneven_24 ?_
    refine lv_aload_n hx hb dX6_uneven_25 rfl (lv_at hl 0 rfl) ?_
    refine gX6_get (own := RX6) (fs := (stF sa σ)) (v := .ref (sa 1)) hx hb hts hown hK hP (q0 := 0) rfl 0 (Nat.le_of_ble_eq_true rfl) (hts _ q598) rfl dX6_uneven_26 ?_
    refine lv_aload_n hx hb dX6_uneven_29 rfl (lv_at hl 0 rfl) ?_
    refine lv_aload_n hx hb dX6_uneven_30 rfl (lv_at hl 1 rfl) ?_
    refine lv_iconst (v := (0 : Int32)) hx hb dX6_uneven_31 (by decide) ?_
    obtain ⟨v5, hg, hf⟩ := bq_b1s hf
    refine bq_cV (bs := [stB d sa σ, coB d ca dy fa κ]) (bc := [stB d sa σ, coB d ca dy fa κ]) (br := []) (bc' := [stB d sa σ, coB d ca dy fa κ]) (bs' := [stB d sa σ, coB d ca dy fa κ]) (As := [.ref (ca 0), .int (0 : Int32)]) (rest := [.ref (sa 1), .int (σ 1 v3.toNatClampNeg)]) (o := (some (.int v5))) C hkc hks (met_st_extreme hok hamb hg) (bq_pm [0, 1] rfl rfl rfl) (bq_pm [0, 1] rfl rfl rfl) (lw_V q975 q976 q977 q138 q978) (hd_X6_extreme) (Nat.le_of_ble_eq_true rfl) (Nat.le_of_ble_eq_true rfl) (va_recv hK hP (ci := 5) (q0 := 0) rfl rfl) rfl hl.1 rfl (Nat.le_of_ble_eq_true rfl) dX6_uneven_32 hP hD hS (fun H locs hP hD hS => ?_)
    obtain ⟨h6, hf⟩ := bq_cks hf
    refine bq_ild (j := v5.toNatClampNeg) (f := σ 1) (q := 0) hx hb hK hP 1 rfl rfl h6 rfl dX6_uneven_35 ?_
    refine lv_isub hx hb dX6_uneven_36 ?_
    obtain rfl := Option.some.inj hf
    exact bq_iret C hr hP hD hS dX6_uneven_37
  · have hf := bq_ip c2 hf
    refine lv_iconst (v := (-1 : Int32)) hx hb dX6_uneven_10 (by decide) ?_
    refine lv_goto (tgt := 37) hx hb dX6_uneven_11 (by decide) ?_
    obtain rfl := Option.some.inj hf
    exact bq_iret C hr hP hD hS dX6_uneven_37
set_option maxHeartbeats 4000000 in
theorem wk_st_begins_L33 {p : Program} {e : Env} {R : Room} {s : State} {m : MethodId} {args : Array Value} {below : List Frame} {meth : Method} {c : Code} {A : Nat → Prop} {kc ks : Nat} {Q : State → Prop} {l : Launch} {D : va_G} {am : bqAm} {X vE sE : Nat → Nat} {d : Nat → ClassId} {ca sa : Nat → Nat} {dy fa : Option Nat} {L : Nat} {mc : Int32} {F : Nat} {E : bqE} (C : bq_C p R s m args meth c A D bqCl (bqTy d) am cX6_begins 3 RX6 3 80) (hkc : kc ≤ R.cells) (hks : ks ≤ R.slots) (hamb : bq_Amb am X vE sE) (hL : E.1 ≤ L ∧ L < 2147483648) {κ : bqS} :
    ∀ (k : Nat) (x2 : Int32) (σ : bqS) (σ' : bqS) (H : Heap) (locs : List Loc), st_begins_L33 F E κ k x2 σ = some σ' → va_P D bqCl (List.flatten ([stB d sa σ, coB d ca dy fa κ, lsB d ca L mc E.1, giB ca E.1 κ] : List va_W)) H → va_D A (List.flatten ([stB d sa σ, coB d ca dy fa κ, lsB d ca L mc E.1, giB ca E.1 κ] : List va_W)) → va_S A s.heap H locs → ∀ ls : Array Slot, lv_has ls 3 [(0, .ref (sa 0)), (1, .ref (ca 0)), (2, .int x2)] →
      (∀ (H : Heap) (locs : List Loc), va_P D bqCl (List.flatten ([stB d sa σ', coB d ca dy fa κ, lsB d ca L mc E.1, giB ca E.1 κ] : List va_W)) H → va_D A (List.flatten ([stB d sa σ', coB d ca dy fa κ, lsB d ca L mc E.1, giB ca E.1 κ] : List va_W)) → va_S A s.heap H locs → ∀ ls : Array Slot, lv_has ls 3 [(0, .ref (sa 0)), (1, .ref (ca 0))] → W p l e R s m args below meth c H locs kc ks Q (F0 m 69 ls [])) →
      W p l e R s m args below meth c H locs kc ks Q (F0 m 33 ls []) := by
  have C0 := C
  obtain ⟨hx, hb, hown, hts, hml, hlocks, hA, hK, hm, hRf, hRl, hok⟩ := C
  have C := C0
  intro k
  induction k with
  | zero => intro x2 σ σ' H locs hf
            cases hf
  | succ k ih =>
    intro x2 σ σ' H locs hf hP hD hS ls hl hk0
    rw [st_begins_L33] at hf
    refine lv_iload_n hx hb dX6_begins_33 rfl (lv_at hl 2 rfl) ?_
    refine lv_bipush (v := (30 : Int32)) hx hb dX6_begins_34 (by decide) ?_
    refine lv_icmp_ge (tgt := 69) hx hb dX6_begins_36 (by decide) (fun c6 => ?_) (fun c6 => ?_)
    · have hf := bq_ip c6 hf
      obtain rfl := Option.some.inj hf
      exact hk0 _ _ hP hD hS ls (lv_sub hl [0, 1] rfl)
    · have hf := bq_in c6 hf
      refine lv_aload_n hx hb dX6_begins_39 rfl (lv_at hl 0 rfl) ?_
      refine gX6_get (own := RX6) (fs := (stF sa σ)) (v := .ref (sa 1)) hx hb hts hown hK hP (q0 := 0) rfl 0 (Nat.le_of_ble_eq_true rfl) (hts _ q598) rfl dX6_begins_40 ?_
      refine lv_iload_n hx hb dX6_begins_43 rfl (lv_at hl 2 rfl) ?_
      refine lv_aload_n hx hb dX6_begins_44 rfl (lv_at hl 0 rfl) ?_
      refine lv_iload_n hx hb dX6_begins_45 rfl (lv_at hl 2 rfl) ?_
      obtain ⟨v7, hg, hf⟩ := bq_b1s hf
      refine bq_cV (bs := [stB d sa σ, coB d ca dy fa κ, lsB d ca L mc E.1, giB ca E.1 κ]) (bc := [stB d sa σ]) (br := [coB d ca dy fa κ, lsB d ca L mc E.1, giB ca E.1 κ]) (bc' := [stB d sa σ]) (bs' := [stB d sa σ, coB d ca dy fa κ, lsB d ca L mc E.1, giB ca E.1 κ]) (As := [.int x2]) (rest := [.int x2, .ref (sa 1)]) (o := (some (.int v7))) C hkc hks (met_st_isPeg hok hamb hg) (bq_pm [0, 1, 2, 3] rfl rfl rfl) (bq_pm [0, 1, 2, 3] rfl rfl rfl) (lw_V q732 q733 q734 q138 q735) (hd_X6_isPeg) (Nat.le_of_ble_eq_true rfl) (Nat.le_of_ble_eq_true rfl) (va_recv hK hP (ci := 5) (q0 := 0) rfl rfl) rfl hl.1 rfl (Nat.le_of_ble_eq_true rfl) dX6_begins_46 hP hD hS (fun H locs hP hD hS => ?_)
      refine lv_if_eq (tgt := 56) hx hb dX6_begins_49 (by decide) (fun c8 => ?_) (fun c8 => ?_)
      · have hf := bq_ip c8 hf
        refine lv_aload_n hx hb dX6_begins_56 rfl (lv_at hl 1 rfl) ?_
        refine gX2_getN (own := RX6) (host := "BlueBag") (fs := (coF ca dy fa κ)) (v := .ref (ca 1)) hx hb hts hown hK hP (q0 := 5) rfl 6 (Nat.le_of_ble_eq_true rfl) (bq_nF hamb hm 38 rfl) rfl dX6_begins_57 ?_
        refine lv_iload_n hx hb dX6_begins_60 rfl (lv_at hl 2 rfl) ?_
        obtain ⟨h9, hf⟩ := bq_cks hf
        refine bq_ild (j := x2.toNatClampNeg) (f := κ 1) (q := 0) hx hb hK hP 6 rfl rfl h9 rfl dX6_begins_61 ?_
        obtain ⟨h10, hf⟩ := bq_cks hf
        obtain ⟨σ11, eσ11, hf⟩ := bq_lts hf
        refine bq_ist (j := x2.toNatClampNeg) (f := σ 1) (ws' := (List.flatten ([stB d sa (bq_up σ 1 x2.toNatClampNeg (κ 1 x2.toNatClampNeg)), coB d ca dy fa κ, lsB d ca L mc E.1, giB ca E.1 κ] : List va_W))) hx hb hK hP hD hS 1 rfl rfl h10 rfl rfl dX6_begins_62 (fun H locs hP hD hS => ?_)
        rw [← eσ11] at hP hD
        obtain ⟨v12, ev12, hf⟩ := bq_lts hf
        refine lv_iinc (v := v12) (lv' := [(2, .int v12), (0, .ref (sa 0)), (1, .ref (ca 0))]) hx hb dX6_begins_63 hl (k := 2) rfl (bq_inc (by decide) ev12) (by decide) rfl (fun ls hl => ?_)
        refine lv_goto (tgt := 33) hx hb dX6_begins_66 (by decide) ?_
        exact ih _ _ _ _ _ hf hP hD hS ls (lv_sub hl [1, 2, 0] rfl) hk0
      · have hf := bq_in c8 hf
        refine lv_iconst (v := (0 : Int32)) hx hb dX6_begins_52 (by decide) ?_
        refine lv_goto (tgt := 62) hx hb dX6_begins_53 (by decide) ?_
        obtain ⟨h13, hf⟩ := bq_cks hf
        obtain ⟨σ14, eσ14, hf⟩ := bq_lts hf
        refine bq_ist (j := x2.toNatClampNeg) (f := σ 1) (ws' := (List.flatten ([stB d sa (bq_up σ 1 x2.toNatClampNeg (0 : Int32)), coB d ca dy fa κ, lsB d ca L mc E.1, giB ca E.1 κ] : List va_W))) hx hb hK hP hD hS 1 rfl rfl h13 rfl rfl dX6_begins_62 (fun H locs hP hD hS => ?_)
        rw [← eσ14] at hP hD
        obtain ⟨v15, ev15, hf⟩ := bq_lts hf
        refine lv_iinc (v := v15) (lv' := [(2, .int v15), (0, .ref (sa 0)), (1, .ref (ca 0))]) hx hb dX6_begins_63 hl (k := 2) rfl (bq_inc (by decide) ev15) (by decide) rfl (fun ls hl => ?_)
        refine lv_goto (tgt := 33) hx hb dX6_begins_66 (by decide) ?_
        exact ih _ _ _ _ _ hf hP hD hS ls (lv_sub hl [1, 2, 0] rfl) hk0
set_option maxHeartbeats 4000000 in
theorem wk_st_begins_L71 {p : Program} {e : Env} {R : Room} {s : State} {m : MethodId} {args : Array Value} {below : List Frame} {meth : Method} {c : Code} {A : Nat → Prop} {kc ks : Nat} {Q : State → Prop} {l : Launch} {D : va_G} {am : bqAm} {X vE sE : Nat → Nat} {d : Nat → ClassId} {ca sa : Nat → Nat} {dy fa : Option Nat} {L : Nat} {mc : Int32} {F : Nat} {E : bqE} (C : bq_C p R s m args meth c A D bqCl (bqTy d) am cX6_begins 3 RX6 3 80) (hkc : kc ≤ R.cells) (hks : ks ≤ R.slots) (hamb : bq_Amb am X vE sE) (hL : E.1 ≤ L ∧ L < 2147483648) {κ : bqS} :
    ∀ (k : Nat) (x2 : Int32) (σ : bqS) (σ' : bqS) (H : Heap) (locs : List Loc), st_begins_L71 F E κ k x2 σ = some σ' → va_P D bqCl (List.flatten ([stB d sa σ, coB d ca dy fa κ, lsB d ca L mc E.1, giB ca E.1 κ] : List va_W)) H → va_D A (List.flatten ([stB d sa σ, coB d ca dy fa κ, lsB d ca L mc E.1, giB ca E.1 κ] : List va_W)) → va_S A s.heap H locs → ∀ ls : Array Slot, lv_has ls 3 [(0, .ref (sa 0)), (1, .ref (ca 0)), (2, .int x2)] →
      (∀ (H : Heap) (locs : List Loc), va_P D bqCl (List.flatten ([stB d sa σ', coB d ca dy fa κ, lsB d ca L mc E.1, giB ca E.1 κ] : List va_W)) H → va_D A (List.flatten ([stB d sa σ', coB d ca dy fa κ, lsB d ca L mc E.1, giB ca E.1 κ] : List va_W)) → va_S A s.heap H locs → ∀ ls : Array Slot, lv_has ls 3 [] → W p l e R s m args below meth c H locs kc ks Q (F0 m 128 ls [])) →
      W p l e R s m args below meth c H locs kc ks Q (F0 m 71 ls []) := by
  have C0 := C
  obtain ⟨hx, hb, hown, hts, hml, hlocks, hA, hK, hm, hRf, hRl, hok⟩ := C
  have C := C0
  intro k
  induction k with
  | zero => intro x2 σ σ' H locs hf
            cases hf
  | succ k ih =>
    intro x2 σ σ' H locs hf hP hD hS ls hl hk0
    rw [st_begins_L71] at hf
    refine lv_iload_n hx hb dX6_begins_71 rfl (lv_at hl 2 rfl) ?_
    refine lv_aload_n hx hb dX6_begins_72 rfl (lv_at hl 1 rfl) ?_
    refine gX2_getN (own := RX6) (host := "BlueBag") (fs := (coF ca dy fa κ)) (v := .ref (ca 2)) hx hb hts hown hK hP (q0 := 5) rfl 7 (Nat.le_of_ble_eq_true rfl) (bq_nF hamb hm 39 rfl) rfl dX6_begins_73 ?_
    refine bq_cV (bs := [stB d sa σ, coB d ca dy fa κ, lsB d ca L mc E.1, giB ca E.1 κ]) (bc := [lsB d ca L mc E.1]) (br := [stB d sa σ, coB d ca dy fa κ, giB ca E.1 κ]) (bc' := [lsB d ca L mc E.1]) (bs' := [stB d sa σ, coB d ca dy fa κ, lsB d ca L mc E.1, giB ca E.1 κ]) (As := []) (rest := [.int x2]) (o := (some (.int (Int32.ofNat E.1)))) C hkc hks (met_al_size hok) (bq_pm [2, 0, 1, 3] rfl rfl rfl) (bq_pm [1, 2, 0, 3] rfl rfl rfl) (lw_V q736 q737 q738 q117 q739) (hd_J2_size) (Nat.le_of_ble_eq_true rfl) (Nat.le_of_ble_eq_true rfl) (va_recv hK hP (ci := 14) (q0 := 7) rfl rfl) rfl hl.1 rfl (Nat.le_of_ble_eq_true rfl) dX6_begins_76 hP hD hS (fun H locs hP hD hS => ?_)
    refine lv_icmp_ge (tgt := 128) hx hb dX6_begins_79 (by decide) (fun c17 => ?_) (fun c17 => ?_)
    · have hf := bq_ip c17 hf
      obtain rfl := Option.some.inj hf
      exact hk0 _ _ hP hD hS ls (lv_sub hl [] rfl)
    · have hf := bq_in c17 hf
      refine lv_aload_n hx hb dX6_begins_82 rfl (lv_at hl 0 rfl) ?_
      refine gX6_get (own := RX6) (fs := (stF sa σ)) (v := .ref (sa 2)) hx hb hts hown hK hP (q0 := 0) rfl 1 (Nat.le_of_ble_eq_true rfl) (hts _ q600) rfl dX6_begins_83 ?_
      refine lv_iload_n hx hb dX6_begins_86 rfl (lv_at hl 2 rfl) ?_
      refine lv_aload_n hx hb dX6_begins_87 rfl (lv_at hl 1 rfl) ?_
      refine gX2_getN (own := RX6) (host := "BlueBag") (fs := (coF ca dy fa κ)) (v := .ref (ca 2)) hx hb hts hown hK hP (q0 := 5) rfl 7 (Nat.le_of_ble_eq_true rfl) (bq_nF hamb hm 39 rfl) rfl dX6_begins_88 ?_
      refine lv_iload_n hx hb dX6_begins_91 rfl (lv_at hl 2 rfl) ?_
      obtain ⟨h18, hf⟩ := bq_cks hf
      refine bq_cV (bs := [stB d sa σ, coB d ca dy fa κ, lsB d ca L mc E.1, giB ca E.1 κ]) (bc := [lsB d ca L mc E.1]) (br := [stB d sa σ, coB d ca dy fa κ, giB ca E.1 κ]) (bc' := [lsB d ca L mc E.1]) (bs' := [stB d sa σ, coB d ca dy fa κ, lsB d ca L mc E.1, giB ca E.1 κ]) (As := [.int x2]) (rest := [.int x2, .ref (sa 2)]) (o := (some (.ref (ca (10 + x2.toNatClampNeg))))) C hkc hks (met_al_get hok hL h18) (bq_pm [2, 0, 1, 3] rfl rfl rfl) (bq_pm [1, 2, 0, 3] rfl rfl rfl) (lw_V q740 q741 q742 q117 q743) (hd_J2_get) (Nat.le_of_ble_eq_true rfl) (Nat.le_of_ble_eq_true rfl) (va_recv hK hP (ci := 14) (q0 := 7) rfl rfl) rfl hl.1 rfl (Nat.le_of_ble_eq_true rfl) dX6_begins_92 hP hD hS (fun H locs hP hD hS => ?_)
      refine gi_cast (κ := κ) hx hb hown (hts _ q754) hamb hm hK hP (fun q hq => List.mem_flatten.mpr ⟨giB ca E.1 κ, by simp, hq⟩) (bq_inlt h18) dX6_begins_95 ?_
      refine gi_get1 (κ := κ) hx hb hts hown hK hP (fun q hq => List.mem_flatten.mpr ⟨giB ca E.1 κ, by simp, hq⟩) (bq_inlt h18) (hts _ q1372) trivial dX6_begins_98 ?_
      obtain ⟨h19, hf⟩ := bq_cks hf
      obtain ⟨σ20, eσ20, hf⟩ := bq_lts hf
      refine bq_ist (j := x2.toNatClampNeg) (f := σ 2) (ws' := (List.flatten ([stB d sa (bq_up σ 2 x2.toNatClampNeg (κ 3 (x2.toNatClampNeg))), coB d ca dy fa κ, lsB d ca L mc E.1, giB ca E.1 κ] : List va_W))) hx hb hK hP hD hS 2 rfl rfl h19 rfl rfl dX6_begins_101 (fun H locs hP hD hS => ?_)
      rw [← eσ20] at hP hD
      refine lv_aload_n hx hb dX6_begins_102 rfl (lv_at hl 0 rfl) ?_
      refine gX6_get (own := RX6) (fs := (stF sa σ20)) (v := .ref (sa 3)) hx hb hts hown hK hP (q0 := 0) rfl 2 (Nat.le_of_ble_eq_true rfl) (hts _ q602) rfl dX6_begins_103 ?_
      refine lv_iload_n hx hb dX6_begins_106 rfl (lv_at hl 2 rfl) ?_
      refine lv_aload_n hx hb dX6_begins_107 rfl (lv_at hl 1 rfl) ?_
      refine gX2_getN (own := RX6) (host := "BlueBag") (fs := (coF ca dy fa κ)) (v := .ref (ca 2)) hx hb hts hown hK hP (q0 := 5) rfl 7 (Nat.le_of_ble_eq_true rfl) (bq_nF hamb hm 39 rfl) rfl dX6_begins_108 ?_
      refine lv_iload_n hx hb dX6_begins_111 rfl (lv_at hl 2 rfl) ?_
      obtain ⟨h21, hf⟩ := bq_cks hf
      refine bq_cV (bs := [stB d sa σ20, coB d ca dy fa κ, lsB d ca L mc E.1, giB ca E.1 κ]) (bc := [lsB d ca L mc E.1]) (br := [stB d sa σ20, coB d ca dy fa κ, giB ca E.1 κ]) (bc' := [lsB d ca L mc E.1]) (bs' := [stB d sa σ20, coB d ca dy fa κ, lsB d ca L mc E.1, giB ca E.1 κ]) (As := [.int x2]) (rest := [.int x2, .ref (sa 3)]) (o := (some (.ref (ca (10 + x2.toNatClampNeg))))) C hkc hks (met_al_get hok hL h21) (bq_pm [2, 0, 1, 3] rfl rfl rfl) (bq_pm [1, 2, 0, 3] rfl rfl rfl) (lw_V q740 q741 q742 q117 q743) (hd_J2_get) (Nat.le_of_ble_eq_true rfl) (Nat.le_of_ble_eq_true rfl) (va_recv hK hP (ci := 14) (q0 := 7) rfl rfl) rfl hl.1 rfl (Nat.le_of_ble_eq_true rfl) dX6_begins_112 hP hD hS (fun H locs hP hD hS => ?_)
      refine gi_cast (κ := κ) hx hb hown (hts _ q754) hamb hm hK hP (fun q hq => List.mem_flatten.mpr ⟨giB ca E.1 κ, by simp, hq⟩) (bq_inlt h21) dX6_begins_115 ?_
      refine gi_get0 (κ := κ) hx hb hts hown hK hP (fun q hq => List.mem_flatten.mpr ⟨giB ca E.1 κ, by simp, hq⟩) (bq_inlt h21) (hts _ q1369) trivial dX6_begins_118 ?_
      obtain ⟨h22, hf⟩ := bq_cks hf
      obtain ⟨σ23, eσ23, hf⟩ := bq_lts hf
      refine bq_ist (j := x2.toNatClampNeg) (f := σ20 3) (ws' := (List.flatten ([stB d sa (bq_up σ20 3 x2.toNatClampNeg (κ 2 (x2.toNatClampNeg))), coB d ca dy fa κ, lsB d ca L mc E.1, giB ca E.1 κ] : List va_W))) hx hb hK hP hD hS 3 rfl rfl h22 rfl rfl dX6_begins_121 (fun H locs hP hD hS => ?_)
      rw [← eσ23] at hP hD
      obtain ⟨v24, ev24, hf⟩ := bq_lts hf
      refine lv_iinc (v := v24) (lv' := [(2, .int v24), (0, .ref (sa 0)), (1, .ref (ca 0))]) hx hb dX6_begins_122 hl (k := 2) rfl (bq_inc (by decide) ev24) (by decide) rfl (fun ls hl => ?_)
      refine lv_goto (tgt := 71) hx hb dX6_begins_125 (by decide) ?_
      exact ih _ _ _ _ _ hf hP hD hS ls (lv_sub hl [1, 2, 0] rfl) hk0
set_option maxHeartbeats 4000000 in
theorem met_st_begins {l : Launch} {D : va_G} {am : bqAm} {X vE sE : Nat → Nat} {d : Nat → ClassId} {ca sa : Nat → Nat} {dy fa : Option Nat} {L : Nat} {mc : Int32} {F : Nat} {E : bqE} {σ : bqS} {κ : bqS} {σ' : bqS} (hok : bq_Ok am) (hamb : bq_Amb am X vE sE) (hL : E.1 ≤ L ∧ L < 2147483648) (hf : st_begins F E σ κ = some σ') : bq_M l yX6_begins cX6_begins 3 none 3 80 D bqCl (bqTy d) am [.ref (sa 0), .ref (ca 0)] (List.flatten ([stB d sa σ, coB d ca dy fa κ, lsB d ca L mc E.1, giB ca E.1 κ] : List va_W)) none (List.flatten ([stB d sa σ', coB d ca dy fa κ, lsB d ca L mc E.1, giB ca E.1 κ] : List va_W)) := by
  unfold st_begins at hf
  refine bq_of hok (by decide +kernel) (Nat.le_of_ble_eq_true rfl) ?_
  intro p e s m below meth c A ls C hr hP hD hS hl
  have C0 := C
  obtain ⟨hx, hb, hown, hts, hml, hlocks, hA, hK, hm, hRf, hRl, hok⟩ := C
  have C := C0
  have hkc := Nat.zero_le 0
  have hks := Nat.zero_le 0
  have hl : lv_has ls 3 [(0, .ref (sa 0)), (1, .ref (ca 0))] := hl
  refine lv_aload_n hx hb dX6_begins_0 rfl (lv_at hl 0 rfl) ?_
  refine lv_iconst (v := (0 : Int32)) hx hb dX6_begins_1 (by decide) ?_
  obtain ⟨σ1, eσ1, hf⟩ := bq_lts hf
  refine gX6_put (own := RX6) (fs := (stF sa σ)) (ty := .int) (ws' := (List.flatten ([stB d sa (bq_up σ 0 3 (0 : Int32)), coB d ca dy fa κ, lsB d ca L mc E.1, giB ca E.1 κ] : List va_W))) hx hb hts hown hK hP hD hS (q0 := 0) rfl 3 (Nat.le_of_ble_eq_true rfl) (hts _ q604) rfl rfl rfl rfl (Nat.le_of_ble_eq_true rfl) rfl dX6_begins_2 (fun H locs hP hD hS => ?_)
  rw [← eσ1] at hP hD
  refine lv_aload_n hx hb dX6_begins_5 rfl (lv_at hl 0 rfl) ?_
  refine lv_iconst (v := (0 : Int32)) hx hb dX6_begins_6 (by decide) ?_
  obtain ⟨σ2, eσ2, hf⟩ := bq_lts hf
  refine gX6_put (own := RX6) (fs := (stF sa σ1)) (ty := .int) (ws' := (List.flatten ([stB d sa (bq_up σ1 0 5 (0 : Int32)), coB d ca dy fa κ, lsB d ca L mc E.1, giB ca E.1 κ] : List va_W))) hx hb hts hown hK hP hD hS (q0 := 0) rfl 5 (Nat.le_of_ble_eq_true rfl) (hts _ q608) rfl rfl rfl rfl (Nat.le_of_ble_eq_true rfl) rfl dX6_begins_7 (fun H locs hP hD hS => ?_)
  rw [← eσ2] at hP hD
  refine lv_aload_n hx hb dX6_begins_10 rfl (lv_at hl 0 rfl) ?_
  refine lv_iconst (v := (0 : Int32)) hx hb dX6_begins_11 (by decide) ?_
  obtain ⟨σ3, eσ3, hf⟩ := bq_lts hf
  refine gX6_put (own := RX6) (fs := (stF sa σ2)) (ty := .int) (ws' := (List.flatten ([stB d sa (bq_up σ2 0 6 (0 : Int32)), coB d ca dy fa κ, lsB d ca L mc E.1, giB ca E.1 κ] : List va_W))) hx hb hts hown hK hP hD hS (q0 := 0) rfl 6 (Nat.le_of_ble_eq_true rfl) (hts _ q610) rfl rfl rfl rfl (Nat.le_of_ble_eq_true rfl) rfl dX6_begins_12 (fun H locs hP hD hS => ?_)
  rw [← eσ3] at hP hD
  refine lv_aload_n hx hb dX6_begins_15 rfl (lv_at hl 0 rfl) ?_
  refine lv_aload_n hx hb dX6_begins_16 rfl (lv_at hl 1 rfl) ?_
  refine gX2_getN (own := RX6) (host := "BlueBag") (fs := (coF ca dy fa κ)) (v := .int (κ 0 2)) hx hb hts hown hK hP (q0 := 5) rfl 2 (Nat.le_of_ble_eq_true rfl) (bq_nF hamb hm 36 rfl) rfl dX6_begins_17 ?_
  obtain ⟨σ4, eσ4, hf⟩ := bq_lts hf
  refine gX6_put (own := RX6) (fs := (stF sa σ3)) (ty := .int) (ws' := (List.flatten ([stB d sa (bq_up σ3 0 4 (κ 0 2)), coB d ca dy fa κ, lsB d ca L mc E.1, giB ca E.1 κ] : List va_W))) hx hb hts hown hK hP hD hS (q0 := 0) rfl 4 (Nat.le_of_ble_eq_true rfl) (hts _ q606) rfl rfl rfl rfl (Nat.le_of_ble_eq_true rfl) rfl dX6_begins_20 (fun H locs hP hD hS => ?_)
  rw [← eσ4] at hP hD
  refine lv_aload_n hx hb dX6_begins_23 rfl (lv_at hl 0 rfl) ?_
  refine lv_aload_n hx hb dX6_begins_24 rfl (lv_at hl 1 rfl) ?_
  refine gX2_getN (own := RX6) (host := "BlueBag") (fs := (coF ca dy fa κ)) (v := .int (κ 0 5)) hx hb hts hown hK hP (q0 := 5) rfl 5 (Nat.le_of_ble_eq_true rfl) (bq_nF hamb hm 37 rfl) rfl dX6_begins_25 ?_
  obtain ⟨σ5, eσ5, hf⟩ := bq_lts hf
  refine gX6_put (own := RX6) (fs := (stF sa σ4)) (ty := .int) (ws' := (List.flatten ([stB d sa (bq_up σ4 0 7 (κ 0 5)), coB d ca dy fa κ, lsB d ca L mc E.1, giB ca E.1 κ] : List va_W))) hx hb hts hown hK hP hD hS (q0 := 0) rfl 7 (Nat.le_of_ble_eq_true rfl) (hts _ q612) rfl rfl rfl rfl (Nat.le_of_ble_eq_true rfl) rfl dX6_begins_28 (fun H locs hP hD hS => ?_)
  rw [← eσ5] at hP hD
  refine lv_iconst (v := (0 : Int32)) hx hb dX6_begins_31 (by decide) ?_
  refine lv_istore_n (lv' := [(2, .int (0 : Int32)), (0, .ref (sa 0)), (1, .ref (ca 0))]) hx hb dX6_begins_32 rfl hl (by decide) rfl (fun ls hl => ?_)
  obtain ⟨σ16, hg, hf⟩ := bq_b1s hf
  refine wk_st_begins_L33 C hkc hks hamb hL _ _ _ _ _ _ hg hP hD hS ls (lv_sub hl [1, 2, 0] rfl) ?_
  · intro H locs hP hD hS ls hl
    refine lv_iconst (v := (0 : Int32)) hx hb dX6_begins_69 (by decide) ?_
    refine lv_istore_n (lv' := [(2, .int (0 : Int32)), (0, .ref (sa 0)), (1, .ref (ca 0))]) hx hb dX6_begins_70 rfl hl (by decide) rfl (fun ls hl => ?_)
    obtain ⟨σ25, hg, hf⟩ := bq_b1s hf
    refine wk_st_begins_L71 C hkc hks hamb hL _ _ _ _ _ _ hg hP hD hS ls (lv_sub hl [1, 2, 0] rfl) ?_
    · intro H locs hP hD hS ls hl
      obtain rfl := Option.some.inj hf
      exact bq_vret C hr hP hD hS dX6_begins_128
set_option maxHeartbeats 4000000 in
theorem met_st_swishes {l : Launch} {D : va_G} {am : bqAm} {X vE sE : Nat → Nat} {d : Nat → ClassId} {ca sa : Nat → Nat} {dy fa : Option Nat} {L : Nat} {mc : Int32} {P : va_W} {F : Nat} {E : bqE} {σ : bqS} {ν : bqS} {κ : bqS} {σ' : bqS} {ν' : bqS} {x2 : Int32} (hok : bq_Ok am) (hamb : bq_Amb am X vE sE) (hE : bq_E P vE dy fa E) (hby : bq_By l D am d ca vE P 400) (hL : E.1 ≤ L ∧ L < 2147483648) (hf : st_swishes F E σ ν κ x2 = some (σ', ν')) : bq_M l yX6_swishes cX6_swishes 4 none 802 24085 D bqCl (bqTy d) am [.ref (sa 0), .ref (ca 0), .int x2] (List.flatten ([stB d sa σ, viB d ca ν, coB d ca dy fa κ, lsB d ca L mc E.1, giB ca E.1 κ, P] : List va_W)) none (List.flatten ([stB d sa σ', viB d ca ν', coB d ca dy fa κ, lsB d ca L mc E.1, giB ca E.1 κ, P] : List va_W)) := by
  unfold st_swishes at hf
  refine bq_of hok (by decide +kernel) (Nat.le_of_ble_eq_true rfl) ?_
  intro p e s m below meth c A ls C hr hP hD hS hl
  have C0 := C
  obtain ⟨hx, hb, hown, hts, hml, hlocks, hA, hK, hm, hRf, hRl, hok⟩ := C
  have C := C0
  have hkc := Nat.zero_le 0
  have hks := Nat.zero_le 0
  have hl : lv_has ls 4 [(0, .ref (sa 0)), (1, .ref (ca 0)), (2, .int x2)] := hl
  refine lv_aload_n hx hb dX6_swishes_0 rfl (lv_at hl 0 rfl) ?_
  refine lv_aload_n hx hb dX6_swishes_1 rfl (lv_at hl 1 rfl) ?_
  refine lv_iload_n hx hb dX6_swishes_2 rfl (lv_at hl 2 rfl) ?_
  refine lv_aload_n hx hb dX6_swishes_3 rfl (lv_at hl 0 rfl) ?_
  refine gX6_get (own := RX6) (fs := (stF sa σ)) (v := .int (σ 0 4)) hx hb hts hown hK hP (q0 := 0) rfl 4 (Nat.le_of_ble_eq_true rfl) (hts _ q606) rfl dX6_swishes_4 ?_
  obtain ⟨v1, ν2, hg, hf⟩ := bq_b2s hf
  refine bq_cV (bs := [stB d sa σ, viB d ca ν, coB d ca dy fa κ, lsB d ca L mc E.1, giB ca E.1 κ, P]) (bc := [stB d sa σ, viB d ca ν, coB d ca dy fa κ, P]) (br := [lsB d ca L mc E.1, giB ca E.1 κ]) (bc' := [stB d sa σ, viB d ca ν2, coB d ca dy fa κ, P]) (bs' := [stB d sa σ, viB d ca ν2, coB d ca dy fa κ, lsB d ca L mc E.1, giB ca E.1 κ, P]) (As := [.ref (ca 0), .int x2, .int (σ 0 4)]) (rest := []) (o := (some (.int v1))) C hkc hks (met_st_dyes hok hamb hE hby hg) (bq_pm [0, 1, 2, 5, 3, 4] rfl rfl rfl) (bq_pm [0, 1, 2, 4, 5, 3] rfl rfl rfl) (lw_V q856 q857 q858 q138 q859) (hd_X6_dyes) (Nat.le_of_ble_eq_true rfl) (Nat.le_of_ble_eq_true rfl) (va_recv hK hP (ci := 5) (q0 := 0) rfl rfl) rfl hl.1 rfl (Nat.le_of_ble_eq_true rfl) dX6_swishes_7 hP hD hS (fun H locs hP hD hS => ?_)
  refine lv_istore_n (lv' := [(3, .int v1), (0, .ref (sa 0)), (1, .ref (ca 0)), (2, .int x2)]) hx hb dX6_swishes_10 rfl hl (by decide) rfl (fun ls hl => ?_)
  refine lv_aload_n hx hb dX6_swishes_11 rfl (lv_at hl 1 rfl) ?_
  refine lv_aload_n hx hb dX6_swishes_12 rfl (lv_at hl 1 rfl) ?_
  refine gX6_get (own := RX6) (fs := (stF sa σ)) (v := .ref (sa 2)) hx hb hts hown hK hP (q0 := 0) rfl 1 (Nat.le_of_ble_eq_true rfl) (hts _ q600) rfl dX6_swishes_13 ?_
  refine lv_iload_n hx hb dX6_swishes_16 rfl (lv_at hl 3 rfl) ?_
  obtain ⟨h3, hf⟩ := bq_cks hf
  refine bq_ild (j := x2.toNatClampNeg) (f := σ 2) (q := 0) hx hb hK hP 2 rfl rfl h3 rfl dX6_swishes_17 ?_
  refine lv_iload_n hx hb dX6_swishes_18 rfl (lv_at hl 0 rfl) ?_
  obtain ⟨σ4, hg, hf⟩ := bq_b1s hf
  refine bq_cV (bs := [stB d sa σ, viB d ca ν2, coB d ca dy fa κ, lsB d ca L mc E.1, giB ca E.1 κ, P]) (bc := [stB d sa σ]) (br := [viB d ca ν2, coB d ca dy fa κ, lsB d ca L mc E.1, giB ca E.1 κ, P]) (bc' := [stB d sa σ4]) (bs' := [stB d sa σ4, viB d ca ν2, coB d ca dy fa κ, lsB d ca L mc E.1, giB ca E.1 κ, P]) (As := [.int (σ 2 x2.toNatClampNeg), .int v1]) (rest := []) (o := none) C hkc hks (met_st_takes hok hamb hg) (bq_pm [0, 1, 2, 3, 4, 5] rfl rfl rfl) (bq_pm [0, 1, 2, 3, 4, 5] rfl rfl rfl) (lw_V q917 q918 q919 q138 q920) (hd_X6_takes) (Nat.le_of_ble_eq_true rfl) (Nat.le_of_ble_eq_true rfl) (va_recv hK hP (ci := 5) (q0 := 0) rfl rfl) rfl hl.1 rfl (Nat.le_of_ble_eq_true rfl) dX6_swishes_19 hP hD hS (fun H locs hP hD hS => ?_)
  refine lv_aload_n hx hb dX6_swishes_22 rfl (lv_at hl 2 rfl) ?_
  refine gX2_getN (own := RX6) (host := "BlueBag") (fs := (coF ca dy fa κ)) (v := .ref (ca 2)) hx hb hts hown hK hP (q0 := 7) rfl 7 (Nat.le_of_ble_eq_true rfl) (bq_nF hamb hm 39 rfl) rfl dX6_swishes_23 ?_
  refine lv_iload_n hx hb dX6_swishes_26 rfl (lv_at hl 3 rfl) ?_
  obtain ⟨h5, hf⟩ := bq_cks hf
  refine bq_cV (bs := [stB d sa σ4, viB d ca ν2, coB d ca dy fa κ, lsB d ca L mc E.1, giB ca E.1 κ, P]) (bc := [lsB d ca L mc E.1]) (br := [stB d sa σ4, viB d ca ν2, coB d ca dy fa κ, giB ca E.1 κ, P]) (bc' := [lsB d ca L mc E.1]) (bs' := [stB d sa σ4, viB d ca ν2, coB d ca dy fa κ, lsB d ca L mc E.1, giB ca E.1 κ, P]) (As := [.int x2]) (rest := []) (o := (some (.ref (ca (10 + x2.toNatClampNeg))))) C hkc hks (met_al_get hok hL h5) (bq_pm [3, 0, 1, 2, 4, 5] rfl rfl rfl) (bq_pm [1, 2, 3, 0, 4, 5] rfl rfl rfl) (lw_V q740 q741 q742 q117 q743) (hd_J2_get) (Nat.le_of_ble_eq_true rfl) (Nat.le_of_ble_eq_true rfl) (va_recv hK hP (ci := 14) (q0 := 9) rfl rfl) rfl hl.1 rfl (Nat.le_of_ble_eq_true rfl) dX6_swishes_27 hP hD hS (fun H locs hP hD hS => ?_)
  refine gi_cast (κ := κ) hx hb hown (hts _ q754) hamb hm hK hP (fun q hq => List.mem_flatten.mpr ⟨giB ca E.1 κ, by simp, hq⟩) (bq_inlt h5) dX6_swishes_30 ?_
  refine lv_aload_n hx hb dX6_swishes_33 rfl (lv_at hl 2 rfl) ?_
  refine lv_aload_n hx hb dX6_swishes_34 rfl (lv_at hl 1 rfl) ?_
  refine lv_aload_n hx hb dX6_swishes_35 rfl (lv_at hl 1 rfl) ?_
  refine gX6_get (own := RX6) (fs := (stF sa σ4)) (v := .ref (sa 2)) hx hb hts hown hK hP (q0 := 0) rfl 1 (Nat.le_of_ble_eq_true rfl) (hts _ q600) rfl dX6_swishes_36 ?_
  refine lv_iload_n hx hb dX6_swishes_39 rfl (lv_at hl 3 rfl) ?_
  obtain ⟨h6, hf⟩ := bq_cks hf
  refine bq_ild (j := x2.toNatClampNeg) (f := σ4 2) (q := 0) hx hb hK hP 2 rfl rfl h6 rfl dX6_swishes_40 ?_
  refine lv_iload_n hx hb dX6_swishes_41 rfl (lv_at hl 0 rfl) ?_
  obtain ⟨σ7, hg, hf⟩ := bq_b1s hf
  by_cases z8 : κ 4 (x2.toNatClampNeg) = 0
  · have hg := bq_ip z8 hg
    refine bq_cV (bs := [stB d sa σ4, viB d ca ν2, coB d ca dy fa κ, lsB d ca L mc E.1, giB ca E.1 κ, P]) (bc := [stB d sa σ4, coB d ca dy fa κ]) (br := [viB d ca ν2, lsB d ca L mc E.1, giB ca E.1 κ, P]) (bc' := [stB d sa σ7, coB d ca dy fa κ]) (bs' := [stB d sa σ7, viB d ca ν2, coB d ca dy fa κ, lsB d ca L mc E.1, giB ca E.1 κ, P]) (As := [.ref (ca 0), .ref (sa 0), .int (σ4 2 x2.toNatClampNeg), .int v1]) (rest := []) (o := none) C hkc hks (met_girl_spreads (gq := (ca (10 + x2.toNatClampNeg))) hok hamb hg) (bq_pm [0, 2, 1, 3, 4, 5] rfl rfl rfl) (bq_pm [0, 2, 1, 3, 4, 5] rfl rfl rfl) (lw_V q921 q922 q923 q149 q930) (hd_X15_spreads) (Nat.le_of_ble_eq_true rfl) (Nat.le_of_ble_eq_true rfl) ((gi_recv (κ := κ) hK hP (fun q hq => List.mem_flatten.mpr ⟨giB ca E.1 κ, by simp, hq⟩) (bq_inlt h5)).1 z8) rfl hl.1 rfl (Nat.le_of_ble_eq_true rfl) dX6_swishes_42 hP hD hS (fun H locs hP hD hS => ?_)
    obtain ⟨rfl, rfl⟩ := bq_p2 hf
    exact bq_vret C hr hP hD hS dX6_swishes_45
  · have hg := bq_in z8 hg
    refine bq_cU (bs := [stB d sa σ4, viB d ca ν2, coB d ca dy fa κ, lsB d ca L mc E.1, giB ca E.1 κ, P]) (bc := [stB d sa σ4, coB d ca dy fa κ]) (br := [viB d ca ν2, lsB d ca L mc E.1, giB ca E.1 κ, P]) (bc' := [stB d sa σ7, coB d ca dy fa κ]) (bs' := [stB d sa σ7, viB d ca ν2, coB d ca dy fa κ, lsB d ca L mc E.1, giB ca E.1 κ, P]) (As := [.ref (ca 0), .ref (sa 0), .int (σ4 2 x2.toNatClampNeg), .int v1]) (rest := []) (o := none) C hkc hks (met_old_spreads (gq := (ca (10 + x2.toNatClampNeg))) hok hamb hg) (bq_pm [0, 2, 1, 3, 4, 5] rfl rfl rfl) (bq_pm [0, 2, 1, 3, 4, 5] rfl rfl rfl) (va_cwO (own := RX6) (C := RX16) (owner := RX15) (x := yX15_spreads) (y := yX16_spreads) 4 hts (lw_app (bq_l6 q921 q924 q922 q925 q926 q150) (lw_meth q927)) rfl rfl rfl q930 (by decide +kernel) ⟨Nat.le_trans (Nat.le_of_ble_eq_true rfl) hRf, Nat.le_trans (Nat.le_of_ble_eq_true rfl) hRl⟩) ((gi_recv (κ := κ) hK hP (fun q hq => List.mem_flatten.mpr ⟨giB ca E.1 κ, by simp, hq⟩) (bq_inlt h5)).2 z8) rfl hl.1 rfl (Nat.le_of_ble_eq_true rfl) dX6_swishes_42 hP hD hS (fun H locs hP hD hS => ?_)
    obtain ⟨rfl, rfl⟩ := bq_p2 hf
    exact bq_vret C hr hP hD hS dX6_swishes_45
set_option maxHeartbeats 4000000 in
theorem wk_st_goes_L7 {p : Program} {e : Env} {R : Room} {s : State} {m : MethodId} {args : Array Value} {below : List Frame} {meth : Method} {c : Code} {A : Nat → Prop} {kc ks : Nat} {Q : State → Prop} {l : Launch} {D : va_G} {am : bqAm} {X vE sE : Nat → Nat} {d : Nat → ClassId} {ca sa : Nat → Nat} {dy fa : Option Nat} {L : Nat} {mc : Int32} {P : va_W} {F : Nat} {E : bqE} (C : bq_C p R s m args meth c A D bqCl (bqTy d) am cX6_goes 3 RX6 803 24108) (hkc : kc ≤ R.cells) (hks : ks ≤ R.slots) (hamb : bq_Amb am X vE sE) (hE : bq_E P vE dy fa E) (hby : bq_By l D am d ca vE P 400) (hL : E.1 ≤ L ∧ L < 2147483648) {κ : bqS} :
    ∀ (k : Nat) (x2 : Int32) (σ : bqS) (ν : bqS) (σ' : bqS) (ν' : bqS) (H : Heap) (locs : List Loc), st_goes_L7 F E κ k x2 σ ν = some (σ', ν') → va_P D bqCl (List.flatten ([stB d sa σ, viB d ca ν, coB d ca dy fa κ, lsB d ca L mc E.1, giB ca E.1 κ, P] : List va_W)) H → va_D A (List.flatten ([stB d sa σ, viB d ca ν, coB d ca dy fa κ, lsB d ca L mc E.1, giB ca E.1 κ, P] : List va_W)) → va_S A s.heap H locs → ∀ ls : Array Slot, lv_has ls 3 [(0, .ref (sa 0)), (1, .ref (ca 0)), (2, .int x2)] →
      (∀ (H : Heap) (locs : List Loc), va_P D bqCl (List.flatten ([stB d sa σ', viB d ca ν', coB d ca dy fa κ, lsB d ca L mc E.1, giB ca E.1 κ, P] : List va_W)) H → va_D A (List.flatten ([stB d sa σ', viB d ca ν', coB d ca dy fa κ, lsB d ca L mc E.1, giB ca E.1 κ, P] : List va_W)) → va_S A s.heap H locs → ∀ ls : Array Slot, lv_has ls 3 [(0, .ref (sa 0)), (1, .ref (ca 0))] → W p l e R s m args below meth c H locs kc ks Q (F0 m 58 ls [])) →
      W p l e R s m args below meth c H locs kc ks Q (F0 m 7 ls []) := by
  have C0 := C
  obtain ⟨hx, hb, hown, hts, hml, hlocks, hA, hK, hm, hRf, hRl, hok⟩ := C
  have C := C0
  intro k
  induction k with
  | zero => intro x2 σ ν σ' ν' H locs hf
            cases hf
  | succ k ih =>
    intro x2 σ ν σ' ν' H locs hf hP hD hS ls hl hk0
    rw [st_goes_L7] at hf
    refine lv_iload_n hx hb dX6_goes_7 rfl (lv_at hl 2 rfl) ?_
    refine lv_aload_n hx hb dX6_goes_8 rfl (lv_at hl 1 rfl) ?_
    refine gX2_getN (own := RX6) (host := "BlueBag") (fs := (coF ca dy fa κ)) (v := .ref (ca 2)) hx hb hts hown hK hP (q0 := 7) rfl 7 (Nat.le_of_ble_eq_true rfl) (bq_nF hamb hm 39 rfl) rfl dX6_goes_9 ?_
    refine bq_cV (bs := [stB d sa σ, viB d ca ν, coB d ca dy fa κ, lsB d ca L mc E.1, giB ca E.1 κ, P]) (bc := [lsB d ca L mc E.1]) (br := [stB d sa σ, viB d ca ν, coB d ca dy fa κ, giB ca E.1 κ, P]) (bc' := [lsB d ca L mc E.1]) (bs' := [stB d sa σ, viB d ca ν, coB d ca dy fa κ, lsB d ca L mc E.1, giB ca E.1 κ, P]) (As := []) (rest := [.int x2]) (o := (some (.int (Int32.ofNat E.1)))) C hkc hks (met_al_size hok) (bq_pm [3, 0, 1, 2, 4, 5] rfl rfl rfl) (bq_pm [1, 2, 3, 0, 4, 5] rfl rfl rfl) (lw_V q736 q737 q738 q117 q739) (hd_J2_size) (Nat.le_of_ble_eq_true rfl) (Nat.le_of_ble_eq_true rfl) (va_recv hK hP (ci := 14) (q0 := 9) rfl rfl) rfl hl.1 rfl (Nat.le_of_ble_eq_true rfl) dX6_goes_12 hP hD hS (fun H locs hP hD hS => ?_)
    refine lv_icmp_ge (tgt := 58) hx hb dX6_goes_15 (by decide) (fun c2 => ?_) (fun c2 => ?_)
    · have hf := bq_ip c2 hf
      obtain ⟨rfl, rfl⟩ := bq_p2 hf
      exact hk0 _ _ hP hD hS ls (lv_sub hl [0, 1] rfl)
    · have hf := bq_in c2 hf
      refine lv_aload_n hx hb dX6_goes_18 rfl (lv_at hl 0 rfl) ?_
      refine lv_iload_n hx hb dX6_goes_19 rfl (lv_at hl 2 rfl) ?_
      obtain ⟨v3, hg, hf⟩ := bq_b1s hf
      refine bq_cV (bs := [stB d sa σ, viB d ca ν, coB d ca dy fa κ, lsB d ca L mc E.1, giB ca E.1 κ, P]) (bc := [stB d sa σ]) (br := [viB d ca ν, coB d ca dy fa κ, lsB d ca L mc E.1, giB ca E.1 κ, P]) (bc' := [stB d sa σ]) (bs' := [stB d sa σ, viB d ca ν, coB d ca dy fa κ, lsB d ca L mc E.1, giB ca E.1 κ, P]) (As := [.int x2]) (rest := []) (o := (some (.int v3))) C hkc hks (met_st_isResting hok hamb hg) (bq_pm [0, 1, 2, 3, 4, 5] rfl rfl rfl) (bq_pm [0, 1, 2, 3, 4, 5] rfl rfl rfl) (lw_V q848 q849 q850 q138 q851) (hd_X6_isResting) (Nat.le_of_ble_eq_true rfl) (Nat.le_of_ble_eq_true rfl) (va_recv hK hP (ci := 5) (q0 := 0) rfl rfl) rfl hl.1 rfl (Nat.le_of_ble_eq_true rfl) dX6_goes_20 hP hD hS (fun H locs hP hD hS => ?_)
      refine lv_if_ne (tgt := 52) hx hb dX6_goes_23 (by decide) (fun c4 => ?_) (fun c4 => ?_)
      · have hf := bq_in c4 hf
        obtain ⟨v5, ev5, hf⟩ := bq_lts hf
        refine lv_iinc (v := v5) (lv' := [(2, .int v5), (0, .ref (sa 0)), (1, .ref (ca 0))]) hx hb dX6_goes_52 hl (k := 2) rfl (bq_inc (by decide) ev5) (by decide) rfl (fun ls hl => ?_)
        refine lv_goto (tgt := 7) hx hb dX6_goes_55 (by decide) ?_
        exact ih _ _ _ _ _ _ _ hf hP hD hS ls (lv_sub hl [1, 2, 0] rfl) hk0
      · have hf := bq_ip c4 hf
        refine lv_aload_n hx hb dX6_goes_26 rfl (lv_at hl 0 rfl) ?_
        refine gX6_get (own := RX6) (fs := (stF sa σ)) (v := .int (σ 0 4)) hx hb hts hown hK hP (q0 := 0) rfl 4 (Nat.le_of_ble_eq_true rfl) (hts _ q606) rfl dX6_goes_27 ?_
        refine lv_if_ne (tgt := 36) hx hb dX6_goes_30 (by decide) (fun c6 => ?_) (fun c6 => ?_)
        · have hf := bq_in c6 hf
          refine lv_aload_n hx hb dX6_goes_36 rfl (lv_at hl 0 rfl) ?_
          refine lv_dup hx hb dX6_goes_37 rfl ?_
          refine gX6_get (own := RX6) (fs := (stF sa σ)) (v := .int (σ 0 4)) hx hb hts hown hK hP (q0 := 0) rfl 4 (Nat.le_of_ble_eq_true rfl) (hts _ q606) rfl dX6_goes_38 ?_
          refine lv_iconst (v := (1 : Int32)) hx hb dX6_goes_41 (by decide) ?_
          refine lv_isub hx hb dX6_goes_42 ?_
          obtain ⟨σ7, eσ7, hf⟩ := bq_lts hf
          refine gX6_put (own := RX6) (fs := (stF sa σ)) (ty := .int) (ws' := (List.flatten ([stB d sa (bq_up σ 0 4 ((σ 0 4) - (1 : Int32))), viB d ca ν, coB d ca dy fa κ, lsB d ca L mc E.1, giB ca E.1 κ, P] : List va_W))) hx hb hts hown hK hP hD hS (q0 := 0) rfl 4 (Nat.le_of_ble_eq_true rfl) (hts _ q606) rfl rfl rfl rfl (Nat.le_of_ble_eq_true rfl) rfl dX6_goes_43 (fun H locs hP hD hS => ?_)
          rw [← eσ7] at hP hD
          refine lv_aload_n hx hb dX6_goes_46 rfl (lv_at hl 0 rfl) ?_
          refine lv_aload_n hx hb dX6_goes_47 rfl (lv_at hl 1 rfl) ?_
          refine lv_iload_n hx hb dX6_goes_48 rfl (lv_at hl 2 rfl) ?_
          obtain ⟨σ8, ν9, hg, hf⟩ := bq_b2s hf
          refine bq_cV (bs := [stB d sa σ7, viB d ca ν, coB d ca dy fa κ, lsB d ca L mc E.1, giB ca E.1 κ, P]) (bc := [stB d sa σ7, viB d ca ν, coB d ca dy fa κ, lsB d ca L mc E.1, giB ca E.1 κ, P]) (br := []) (bc' := [stB d sa σ8, viB d ca ν9, coB d ca dy fa κ, lsB d ca L mc E.1, giB ca E.1 κ, P]) (bs' := [stB d sa σ8, viB d ca ν9, coB d ca dy fa κ, lsB d ca L mc E.1, giB ca E.1 κ, P]) (As := [.ref (ca 0), .int x2]) (rest := []) (o := none) C hkc hks (met_st_swishes hok hamb hE hby hL hg) (bq_pm [0, 1, 2, 3, 4, 5] rfl rfl rfl) (bq_pm [0, 1, 2, 3, 4, 5] rfl rfl rfl) (lw_V q852 q853 q854 q138 q855) (hd_X6_swishes) (Nat.le_of_ble_eq_true rfl) (Nat.le_of_ble_eq_true rfl) (va_recv hK hP (ci := 5) (q0 := 0) rfl rfl) rfl hl.1 rfl (Nat.le_of_ble_eq_true rfl) dX6_goes_49 hP hD hS (fun H locs hP hD hS => ?_)
          obtain ⟨v10, ev10, hf⟩ := bq_lts hf
          refine lv_iinc (v := v10) (lv' := [(2, .int v10), (0, .ref (sa 0)), (1, .ref (ca 0))]) hx hb dX6_goes_52 hl (k := 2) rfl (bq_inc (by decide) ev10) (by decide) rfl (fun ls hl => ?_)
          refine lv_goto (tgt := 7) hx hb dX6_goes_55 (by decide) ?_
          exact ih _ _ _ _ _ _ _ hf hP hD hS ls (lv_sub hl [1, 2, 0] rfl) hk0
        · have hf := bq_ip c6 hf
          refine lv_goto (tgt := 52) hx hb dX6_goes_33 (by decide) ?_
          obtain ⟨v11, ev11, hf⟩ := bq_lts hf
          refine lv_iinc (v := v11) (lv' := [(2, .int v11), (0, .ref (sa 0)), (1, .ref (ca 0))]) hx hb dX6_goes_52 hl (k := 2) rfl (bq_inc (by decide) ev11) (by decide) rfl (fun ls hl => ?_)
          refine lv_goto (tgt := 7) hx hb dX6_goes_55 (by decide) ?_
          exact ih _ _ _ _ _ _ _ hf hP hD hS ls (lv_sub hl [1, 2, 0] rfl) hk0
set_option maxHeartbeats 4000000 in
theorem wk_st_goes_L60 {p : Program} {e : Env} {R : Room} {s : State} {m : MethodId} {args : Array Value} {below : List Frame} {meth : Method} {c : Code} {A : Nat → Prop} {kc ks : Nat} {Q : State → Prop} {l : Launch} {D : va_G} {am : bqAm} {X vE sE : Nat → Nat} {d : Nat → ClassId} {ca sa : Nat → Nat} {dy fa : Option Nat} {L : Nat} {mc : Int32} {P : va_W} {F : Nat} {E : bqE} (C : bq_C p R s m args meth c A D bqCl (bqTy d) am cX6_goes 3 RX6 803 24108) (hkc : kc ≤ R.cells) (hks : ks ≤ R.slots) (hamb : bq_Amb am X vE sE) (hE : bq_E P vE dy fa E) (hby : bq_By l D am d ca vE P 400) (hL : E.1 ≤ L ∧ L < 2147483648) {ν : bqS} {κ : bqS} :
    ∀ (k : Nat) (x2 : Int32) (σ : bqS) (σ' : bqS) (H : Heap) (locs : List Loc), st_goes_L60 F E ν κ k x2 σ = some σ' → va_P D bqCl (List.flatten ([stB d sa σ, viB d ca ν, coB d ca dy fa κ, lsB d ca L mc E.1, giB ca E.1 κ, P] : List va_W)) H → va_D A (List.flatten ([stB d sa σ, viB d ca ν, coB d ca dy fa κ, lsB d ca L mc E.1, giB ca E.1 κ, P] : List va_W)) → va_S A s.heap H locs → ∀ ls : Array Slot, lv_has ls 3 [(0, .ref (sa 0)), (1, .ref (ca 0)), (2, .int x2)] →
      (∀ (H : Heap) (locs : List Loc), va_P D bqCl (List.flatten ([stB d sa σ', viB d ca ν, coB d ca dy fa κ, lsB d ca L mc E.1, giB ca E.1 κ, P] : List va_W)) H → va_D A (List.flatten ([stB d sa σ', viB d ca ν, coB d ca dy fa κ, lsB d ca L mc E.1, giB ca E.1 κ, P] : List va_W)) → va_S A s.heap H locs → ∀ ls : Array Slot, lv_has ls 3 [(0, .ref (sa 0)), (1, .ref (ca 0))] → W p l e R s m args below meth c H locs kc ks Q (F0 m 99 ls [])) →
      W p l e R s m args below meth c H locs kc ks Q (F0 m 60 ls []) := by
  have C0 := C
  obtain ⟨hx, hb, hown, hts, hml, hlocks, hA, hK, hm, hRf, hRl, hok⟩ := C
  have C := C0
  intro k
  induction k with
  | zero => intro x2 σ σ' H locs hf
            cases hf
  | succ k ih =>
    intro x2 σ σ' H locs hf hP hD hS ls hl hk0
    rw [st_goes_L60] at hf
    refine lv_iload_n hx hb dX6_goes_60 rfl (lv_at hl 2 rfl) ?_
    refine lv_aload_n hx hb dX6_goes_61 rfl (lv_at hl 1 rfl) ?_
    obtain ⟨v14, hg, hf⟩ := bq_b1s hf
    refine bq_cV (bs := [stB d sa σ, viB d ca ν, coB d ca dy fa κ, lsB d ca L mc E.1, giB ca E.1 κ, P]) (bc := [coB d ca dy fa κ]) (br := [stB d sa σ, viB d ca ν, lsB d ca L mc E.1, giB ca E.1 κ, P]) (bc' := [coB d ca dy fa κ]) (bs' := [stB d sa σ, viB d ca ν, coB d ca dy fa κ, lsB d ca L mc E.1, giB ca E.1 κ, P]) (As := []) (rest := [.int x2]) (o := (some (.int v14))) C hkc hks (met_co_cells hok hamb hg) (bq_pm [2, 0, 1, 3, 4, 5] rfl rfl rfl) (bq_pm [1, 2, 0, 3, 4, 5] rfl rfl rfl) (lw_V q864 q865 q866 q114 q867) (hd_X2_cells) (Nat.le_of_ble_eq_true rfl) (Nat.le_of_ble_eq_true rfl) (va_recv hK hP (ci := 2) (q0 := 7) rfl rfl) rfl hl.1 rfl (Nat.le_of_ble_eq_true rfl) dX6_goes_62 hP hD hS (fun H locs hP hD hS => ?_)
    refine lv_icmp_ge (tgt := 99) hx hb dX6_goes_65 (by decide) (fun c15 => ?_) (fun c15 => ?_)
    · have hf := bq_ip c15 hf
      obtain rfl := Option.some.inj hf
      exact hk0 _ _ hP hD hS ls (lv_sub hl [0, 1] rfl)
    · have hf := bq_in c15 hf
      refine lv_aload_n hx hb dX6_goes_68 rfl (lv_at hl 0 rfl) ?_
      refine gX6_get (own := RX6) (fs := (stF sa σ)) (v := .ref (sa 1)) hx hb hts hown hK hP (q0 := 0) rfl 0 (Nat.le_of_ble_eq_true rfl) (hts _ q598) rfl dX6_goes_69 ?_
      refine lv_iload_n hx hb dX6_goes_72 rfl (lv_at hl 2 rfl) ?_
      obtain ⟨h16, hf⟩ := bq_cks hf
      refine bq_ild (j := x2.toNatClampNeg) (f := σ 1) (q := 0) hx hb hK hP 1 rfl rfl h16 rfl dX6_goes_73 ?_
      refine lv_aload_n hx hb dX6_goes_74 rfl (lv_at hl 1 rfl) ?_
      refine gX2_getN (own := RX6) (host := "BlueBag") (fs := (coF ca dy fa κ)) (v := .int (κ 0 4)) hx hb hts hown hK hP (q0 := 7) rfl 4 (Nat.le_of_ble_eq_true rfl) (bq_nF hamb hm 44 rfl) rfl dX6_goes_75 ?_
      refine lv_icmp_le (tgt := 93) hx hb dX6_goes_78 (by decide) (fun c17 => ?_) (fun c17 => ?_)
      · have hf := bq_ip c17 hf
        obtain ⟨v18, ev18, hf⟩ := bq_lts hf
        refine lv_iinc (v := v18) (lv' := [(2, .int v18), (0, .ref (sa 0)), (1, .ref (ca 0))]) hx hb dX6_goes_93 hl (k := 2) rfl (bq_inc (by decide) ev18) (by decide) rfl (fun ls hl => ?_)
        refine lv_goto (tgt := 60) hx hb dX6_goes_96 (by decide) ?_
        exact ih _ _ _ _ _ hf hP hD hS ls (lv_sub hl [1, 2, 0] rfl) hk0
      · have hf := bq_in c17 hf
        refine lv_aload_n hx hb dX6_goes_81 rfl (lv_at hl 0 rfl) ?_
        refine lv_dup hx hb dX6_goes_82 rfl ?_
        refine gX6_get (own := RX6) (fs := (stF sa σ)) (v := .int (σ 0 8)) hx hb hts hown hK hP (q0 := 0) rfl 8 (Nat.le_of_ble_eq_true rfl) (hts _ q614) rfl dX6_goes_83 ?_
        refine lv_iconst (v := (1 : Int32)) hx hb dX6_goes_86 (by decide) ?_
        refine lv_iload_n hx hb dX6_goes_87 rfl (lv_at hl 2 rfl) ?_
        refine lv_ishl hx hb dX6_goes_88 ?_
        refine lv_ior hx hb dX6_goes_89 ?_
        obtain ⟨σ19, eσ19, hf⟩ := bq_lts hf
        refine gX6_put (own := RX6) (fs := (stF sa σ)) (ty := .int) (ws' := (List.flatten ([stB d sa (bq_up σ 0 8 ((σ 0 8) ||| ((1 : Int32) <<< (x2 &&& 31)))), viB d ca ν, coB d ca dy fa κ, lsB d ca L mc E.1, giB ca E.1 κ, P] : List va_W))) hx hb hts hown hK hP hD hS (q0 := 0) rfl 8 (Nat.le_of_ble_eq_true rfl) (hts _ q614) rfl rfl rfl rfl (Nat.le_of_ble_eq_true rfl) rfl dX6_goes_90 (fun H locs hP hD hS => ?_)
        rw [← eσ19] at hP hD
        obtain ⟨v20, ev20, hf⟩ := bq_lts hf
        refine lv_iinc (v := v20) (lv' := [(2, .int v20), (0, .ref (sa 0)), (1, .ref (ca 0))]) hx hb dX6_goes_93 hl (k := 2) rfl (bq_inc (by decide) ev20) (by decide) rfl (fun ls hl => ?_)
        refine lv_goto (tgt := 60) hx hb dX6_goes_96 (by decide) ?_
        exact ih _ _ _ _ _ hf hP hD hS ls (lv_sub hl [1, 2, 0] rfl) hk0
set_option maxHeartbeats 4000000 in
theorem wk_st_goes_L123 {p : Program} {e : Env} {R : Room} {s : State} {m : MethodId} {args : Array Value} {below : List Frame} {meth : Method} {c : Code} {A : Nat → Prop} {kc ks : Nat} {Q : State → Prop} {l : Launch} {D : va_G} {am : bqAm} {X vE sE : Nat → Nat} {d : Nat → ClassId} {ca sa : Nat → Nat} {dy fa : Option Nat} {L : Nat} {mc : Int32} {P : va_W} {F : Nat} {E : bqE} (C : bq_C p R s m args meth c A D bqCl (bqTy d) am cX6_goes 3 RX6 803 24108) (hkc : kc ≤ R.cells) (hks : ks ≤ R.slots) (hamb : bq_Amb am X vE sE) (hE : bq_E P vE dy fa E) (hby : bq_By l D am d ca vE P 400) (hL : E.1 ≤ L ∧ L < 2147483648) {ν : bqS} {κ : bqS} :
    ∀ (k : Nat) (x2 : Int32) (σ : bqS) (σ' : bqS) (H : Heap) (locs : List Loc), st_goes_L123 F E ν κ k x2 σ = some σ' → va_P D bqCl (List.flatten ([stB d sa σ, viB d ca ν, coB d ca dy fa κ, lsB d ca L mc E.1, giB ca E.1 κ, P] : List va_W)) H → va_D A (List.flatten ([stB d sa σ, viB d ca ν, coB d ca dy fa κ, lsB d ca L mc E.1, giB ca E.1 κ, P] : List va_W)) → va_S A s.heap H locs → ∀ ls : Array Slot, lv_has ls 3 [(0, .ref (sa 0)), (1, .ref (ca 0)), (2, .int x2)] →
      (∀ (H : Heap) (locs : List Loc), va_P D bqCl (List.flatten ([stB d sa σ', viB d ca ν, coB d ca dy fa κ, lsB d ca L mc E.1, giB ca E.1 κ, P] : List va_W)) H → va_D A (List.flatten ([stB d sa σ', viB d ca ν, coB d ca dy fa κ, lsB d ca L mc E.1, giB ca E.1 κ, P] : List va_W)) → va_S A s.heap H locs → ∀ ls : Array Slot, lv_has ls 3 [(0, .ref (sa 0)), (1, .ref (ca 0))] → W p l e R s m args below meth c H locs kc ks Q (F0 m 158 ls [])) →
      W p l e R s m args below meth c H locs kc ks Q (F0 m 123 ls []) := by
  have C0 := C
  obtain ⟨hx, hb, hown, hts, hml, hlocks, hA, hK, hm, hRf, hRl, hok⟩ := C
  have C := C0
  intro k
  induction k with
  | zero => intro x2 σ σ' H locs hf
            cases hf
  | succ k ih =>
    intro x2 σ σ' H locs hf hP hD hS ls hl hk0
    rw [st_goes_L123] at hf
    refine lv_iload_n hx hb dX6_goes_123 rfl (lv_at hl 2 rfl) ?_
    refine lv_aload_n hx hb dX6_goes_124 rfl (lv_at hl 1 rfl) ?_
    obtain ⟨v24, hg, hf⟩ := bq_b1s hf
    refine bq_cV (bs := [stB d sa σ, viB d ca ν, coB d ca dy fa κ, lsB d ca L mc E.1, giB ca E.1 κ, P]) (bc := [coB d ca dy fa κ]) (br := [stB d sa σ, viB d ca ν, lsB d ca L mc E.1, giB ca E.1 κ, P]) (bc' := [coB d ca dy fa κ]) (bs' := [stB d sa σ, viB d ca ν, coB d ca dy fa κ, lsB d ca L mc E.1, giB ca E.1 κ, P]) (As := []) (rest := [.int x2]) (o := (some (.int v24))) C hkc hks (met_co_cells hok hamb hg) (bq_pm [2, 0, 1, 3, 4, 5] rfl rfl rfl) (bq_pm [1, 2, 0, 3, 4, 5] rfl rfl rfl) (lw_V q864 q865 q866 q114 q867) (hd_X2_cells) (Nat.le_of_ble_eq_true rfl) (Nat.le_of_ble_eq_true rfl) (va_recv hK hP (ci := 2) (q0 := 7) rfl rfl) rfl hl.1 rfl (Nat.le_of_ble_eq_true rfl) dX6_goes_125 hP hD hS (fun H locs hP hD hS => ?_)
    refine lv_icmp_ge (tgt := 158) hx hb dX6_goes_128 (by decide) (fun c25 => ?_) (fun c25 => ?_)
    · have hf := bq_ip c25 hf
      obtain rfl := Option.some.inj hf
      exact hk0 _ _ hP hD hS ls (lv_sub hl [0, 1] rfl)
    · have hf := bq_in c25 hf
      refine lv_aload_n hx hb dX6_goes_131 rfl (lv_at hl 0 rfl) ?_
      refine gX6_get (own := RX6) (fs := (stF sa σ)) (v := .ref (sa 1)) hx hb hts hown hK hP (q0 := 0) rfl 0 (Nat.le_of_ble_eq_true rfl) (hts _ q598) rfl dX6_goes_132 ?_
      refine lv_iload_n hx hb dX6_goes_135 rfl (lv_at hl 2 rfl) ?_
      refine lv_iconst (v := (0 : Int32)) hx hb dX6_goes_136 (by decide) ?_
      refine lv_aload_n hx hb dX6_goes_137 rfl (lv_at hl 0 rfl) ?_
      refine gX6_get (own := RX6) (fs := (stF sa σ)) (v := .ref (sa 1)) hx hb hts hown hK hP (q0 := 0) rfl 0 (Nat.le_of_ble_eq_true rfl) (hts _ q598) rfl dX6_goes_138 ?_
      refine lv_iload_n hx hb dX6_goes_141 rfl (lv_at hl 2 rfl) ?_
      obtain ⟨h26, hf⟩ := bq_cks hf
      refine bq_ild (j := x2.toNatClampNeg) (f := σ 1) (q := 0) hx hb hK hP 1 rfl rfl h26 rfl dX6_goes_142 ?_
      refine lv_aload_n hx hb dX6_goes_143 rfl (lv_at hl 1 rfl) ?_
      refine gX2_getN (own := RX6) (host := "BlueBag") (fs := (coF ca dy fa κ)) (v := .int (κ 0 3)) hx hb hts hown hK hP (q0 := 7) rfl 3 (Nat.le_of_ble_eq_true rfl) (bq_nF hamb hm 45 rfl) rfl dX6_goes_144 ?_
      refine lv_isub hx hb dX6_goes_147 ?_
      refine va_mmax hx hb (hml.trans hl.1.symm) hown (hts _ q916) (hts _ q280) (hts _ q127) (hts _ q281) (Nat.le_trans (Nat.le_of_ble_eq_true rfl) hRf) (Nat.le_trans (Nat.le_of_ble_eq_true rfl) hRl) hkc hks dX6_goes_148 ?_
      obtain ⟨h27, hf⟩ := bq_cks hf
      obtain ⟨σ28, eσ28, hf⟩ := bq_lts hf
      refine bq_ist (j := x2.toNatClampNeg) (f := σ 1) (ws' := (List.flatten ([stB d sa (bq_up σ 1 x2.toNatClampNeg (if (0 : Int32) < ((σ 1 x2.toNatClampNeg) - (κ 0 3)) then ((σ 1 x2.toNatClampNeg) - (κ 0 3)) else (0 : Int32))), viB d ca ν, coB d ca dy fa κ, lsB d ca L mc E.1, giB ca E.1 κ, P] : List va_W))) hx hb hK hP hD hS 1 rfl rfl h27 rfl rfl dX6_goes_151 (fun H locs hP hD hS => ?_)
      rw [← eσ28] at hP hD
      obtain ⟨v29, ev29, hf⟩ := bq_lts hf
      refine lv_iinc (v := v29) (lv' := [(2, .int v29), (0, .ref (sa 0)), (1, .ref (ca 0))]) hx hb dX6_goes_152 hl (k := 2) rfl (bq_inc (by decide) ev29) (by decide) rfl (fun ls hl => ?_)
      refine lv_goto (tgt := 123) hx hb dX6_goes_155 (by decide) ?_
      exact ih _ _ _ _ _ hf hP hD hS ls (lv_sub hl [1, 2, 0] rfl) hk0
set_option maxHeartbeats 4000000 in
theorem wk_st_goes_L160 {p : Program} {e : Env} {R : Room} {s : State} {m : MethodId} {args : Array Value} {below : List Frame} {meth : Method} {c : Code} {A : Nat → Prop} {kc ks : Nat} {Q : State → Prop} {l : Launch} {D : va_G} {am : bqAm} {X vE sE : Nat → Nat} {d : Nat → ClassId} {ca sa : Nat → Nat} {dy fa : Option Nat} {L : Nat} {mc : Int32} {P : va_W} {F : Nat} {E : bqE} (C : bq_C p R s m args meth c A D bqCl (bqTy d) am cX6_goes 3 RX6 803 24108) (hkc : kc ≤ R.cells) (hks : ks ≤ R.slots) (hamb : bq_Amb am X vE sE) (hE : bq_E P vE dy fa E) (hby : bq_By l D am d ca vE P 400) (hL : E.1 ≤ L ∧ L < 2147483648) {κ : bqS} :
    ∀ (k : Nat) (x2 : Int32) (σ : bqS) (ν : bqS) (σ' : bqS) (ν' : bqS) (H : Heap) (locs : List Loc), st_goes_L160 F E κ k x2 σ ν = some (σ', ν') → va_P D bqCl (List.flatten ([stB d sa σ, viB d ca ν, coB d ca dy fa κ, lsB d ca L mc E.1, giB ca E.1 κ, P] : List va_W)) H → va_D A (List.flatten ([stB d sa σ, viB d ca ν, coB d ca dy fa κ, lsB d ca L mc E.1, giB ca E.1 κ, P] : List va_W)) → va_S A s.heap H locs → ∀ ls : Array Slot, lv_has ls 3 [(0, .ref (sa 0)), (1, .ref (ca 0)), (2, .int x2)] →
      (∀ (H : Heap) (locs : List Loc), va_P D bqCl (List.flatten ([stB d sa σ', viB d ca ν', coB d ca dy fa κ, lsB d ca L mc E.1, giB ca E.1 κ, P] : List va_W)) H → va_D A (List.flatten ([stB d sa σ', viB d ca ν', coB d ca dy fa κ, lsB d ca L mc E.1, giB ca E.1 κ, P] : List va_W)) → va_S A s.heap H locs → ∀ ls : Array Slot, lv_has ls 3 [(0, .ref (sa 0)), (1, .ref (ca 0))] → W p l e R s m args below meth c H locs kc ks Q (F0 m 186 ls [])) →
      W p l e R s m args below meth c H locs kc ks Q (F0 m 160 ls []) := by
  have C0 := C
  obtain ⟨hx, hb, hown, hts, hml, hlocks, hA, hK, hm, hRf, hRl, hok⟩ := C
  have C := C0
  intro k
  induction k with
  | zero => intro x2 σ ν σ' ν' H locs hf
            cases hf
  | succ k ih =>
    intro x2 σ ν σ' ν' H locs hf hP hD hS ls hl hk0
    rw [st_goes_L160] at hf
    refine lv_iload_n hx hb dX6_goes_160 rfl (lv_at hl 2 rfl) ?_
    refine lv_aload_n hx hb dX6_goes_161 rfl (lv_at hl 1 rfl) ?_
    obtain ⟨v31, hg, hf⟩ := bq_b1s hf
    refine bq_cV (bs := [stB d sa σ, viB d ca ν, coB d ca dy fa κ, lsB d ca L mc E.1, giB ca E.1 κ, P]) (bc := [coB d ca dy fa κ]) (br := [stB d sa σ, viB d ca ν, lsB d ca L mc E.1, giB ca E.1 κ, P]) (bc' := [coB d ca dy fa κ]) (bs' := [stB d sa σ, viB d ca ν, coB d ca dy fa κ, lsB d ca L mc E.1, giB ca E.1 κ, P]) (As := []) (rest := [.int x2]) (o := (some (.int v31))) C hkc hks (met_co_cells hok hamb hg) (bq_pm [2, 0, 1, 3, 4, 5] rfl rfl rfl) (bq_pm [1, 2, 0, 3, 4, 5] rfl rfl rfl) (lw_V q864 q865 q866 q114 q867) (hd_X2_cells) (Nat.le_of_ble_eq_true rfl) (Nat.le_of_ble_eq_true rfl) (va_recv hK hP (ci := 2) (q0 := 7) rfl rfl) rfl hl.1 rfl (Nat.le_of_ble_eq_true rfl) dX6_goes_162 hP hD hS (fun H locs hP hD hS => ?_)
    refine lv_icmp_ge (tgt := 186) hx hb dX6_goes_165 (by decide) (fun c32 => ?_) (fun c32 => ?_)
    · have hf := bq_ip c32 hf
      obtain ⟨rfl, rfl⟩ := bq_p2 hf
      exact hk0 _ _ hP hD hS ls (lv_sub hl [0, 1] rfl)
    · have hf := bq_in c32 hf
      refine lv_aload_n hx hb dX6_goes_168 rfl (lv_at hl 0 rfl) ?_
      refine gX6_get (own := RX6) (fs := (stF sa σ)) (v := .ref (sa 4)) hx hb hts hown hK hP (q0 := 0) rfl 9 (Nat.le_of_ble_eq_true rfl) (hts _ q616) rfl dX6_goes_169 ?_
      refine lv_iload_n hx hb dX6_goes_172 rfl (lv_at hl 2 rfl) ?_
      refine lv_aload_n hx hb dX6_goes_173 rfl (lv_at hl 0 rfl) ?_
      refine lv_aload_n hx hb dX6_goes_174 rfl (lv_at hl 1 rfl) ?_
      refine lv_iload_n hx hb dX6_goes_175 rfl (lv_at hl 2 rfl) ?_
      obtain ⟨v33, ν34, hg, hf⟩ := bq_b2s hf
      refine bq_cV (bs := [stB d sa σ, viB d ca ν, coB d ca dy fa κ, lsB d ca L mc E.1, giB ca E.1 κ, P]) (bc := [stB d sa σ, viB d ca ν, coB d ca dy fa κ, P]) (br := [lsB d ca L mc E.1, giB ca E.1 κ]) (bc' := [stB d sa σ, viB d ca ν34, coB d ca dy fa κ, P]) (bs' := [stB d sa σ, viB d ca ν34, coB d ca dy fa κ, lsB d ca L mc E.1, giB ca E.1 κ, P]) (As := [.ref (ca 0), .int x2]) (rest := [.int x2, .ref (sa 4)]) (o := (some (.int v33))) C hkc hks (met_st_fades hok hamb hE hby hg) (bq_pm [0, 1, 2, 5, 3, 4] rfl rfl rfl) (bq_pm [0, 1, 2, 4, 5, 3] rfl rfl rfl) (lw_V q940 q942 qs9 q138 q943) (hd_X6_fades) (Nat.le_of_ble_eq_true rfl) (Nat.le_of_ble_eq_true rfl) (va_recv hK hP (ci := 5) (q0 := 0) rfl rfl) rfl hl.1 rfl (Nat.le_of_ble_eq_true rfl) dX6_goes_176 hP hD hS (fun H locs hP hD hS => ?_)
      obtain ⟨h35, hf⟩ := bq_cks hf
      obtain ⟨σ36, eσ36, hf⟩ := bq_lts hf
      refine bq_ist (j := x2.toNatClampNeg) (f := σ 4) (ws' := (List.flatten ([stB d sa (bq_up σ 4 x2.toNatClampNeg v33), viB d ca ν34, coB d ca dy fa κ, lsB d ca L mc E.1, giB ca E.1 κ, P] : List va_W))) hx hb hK hP hD hS 4 rfl rfl h35 rfl rfl dX6_goes_179 (fun H locs hP hD hS => ?_)
      rw [← eσ36] at hP hD
      obtain ⟨v37, ev37, hf⟩ := bq_lts hf
      refine lv_iinc (v := v37) (lv' := [(2, .int v37), (0, .ref (sa 0)), (1, .ref (ca 0))]) hx hb dX6_goes_180 hl (k := 2) rfl (bq_inc (by decide) ev37) (by decide) rfl (fun ls hl => ?_)
      refine lv_goto (tgt := 160) hx hb dX6_goes_183 (by decide) ?_
      exact ih _ _ _ _ _ _ _ hf hP hD hS ls (lv_sub hl [1, 2, 0] rfl) hk0
set_option maxHeartbeats 4000000 in
theorem wk_st_goes_L188 {p : Program} {e : Env} {R : Room} {s : State} {m : MethodId} {args : Array Value} {below : List Frame} {meth : Method} {c : Code} {A : Nat → Prop} {kc ks : Nat} {Q : State → Prop} {l : Launch} {D : va_G} {am : bqAm} {X vE sE : Nat → Nat} {d : Nat → ClassId} {ca sa : Nat → Nat} {dy fa : Option Nat} {L : Nat} {mc : Int32} {P : va_W} {F : Nat} {E : bqE} (C : bq_C p R s m args meth c A D bqCl (bqTy d) am cX6_goes 3 RX6 803 24108) (hkc : kc ≤ R.cells) (hks : ks ≤ R.slots) (hamb : bq_Amb am X vE sE) (hE : bq_E P vE dy fa E) (hby : bq_By l D am d ca vE P 400) (hL : E.1 ≤ L ∧ L < 2147483648) {ν : bqS} {κ : bqS} :
    ∀ (k : Nat) (x2 : Int32) (σ : bqS) (σ' : bqS) (H : Heap) (locs : List Loc), st_goes_L188 F E ν κ k x2 σ = some σ' → va_P D bqCl (List.flatten ([stB d sa σ, viB d ca ν, coB d ca dy fa κ, lsB d ca L mc E.1, giB ca E.1 κ, P] : List va_W)) H → va_D A (List.flatten ([stB d sa σ, viB d ca ν, coB d ca dy fa κ, lsB d ca L mc E.1, giB ca E.1 κ, P] : List va_W)) → va_S A s.heap H locs → ∀ ls : Array Slot, lv_has ls 3 [(0, .ref (sa 0)), (1, .ref (ca 0)), (2, .int x2)] →
      (∀ (H : Heap) (locs : List Loc), va_P D bqCl (List.flatten ([stB d sa σ', viB d ca ν, coB d ca dy fa κ, lsB d ca L mc E.1, giB ca E.1 κ, P] : List va_W)) H → va_D A (List.flatten ([stB d sa σ', viB d ca ν, coB d ca dy fa κ, lsB d ca L mc E.1, giB ca E.1 κ, P] : List va_W)) → va_S A s.heap H locs → ∀ ls : Array Slot, lv_has ls 3 [(0, .ref (sa 0))] → W p l e R s m args below meth c H locs kc ks Q (F0 m 217 ls [])) →
      W p l e R s m args below meth c H locs kc ks Q (F0 m 188 ls []) := by
  have C0 := C
  obtain ⟨hx, hb, hown, hts, hml, hlocks, hA, hK, hm, hRf, hRl, hok⟩ := C
  have C := C0
  intro k
  induction k with
  | zero => intro x2 σ σ' H locs hf
            cases hf
  | succ k ih =>
    intro x2 σ σ' H locs hf hP hD hS ls hl hk0
    rw [st_goes_L188] at hf
    refine lv_iload_n hx hb dX6_goes_188 rfl (lv_at hl 2 rfl) ?_
    refine lv_aload_n hx hb dX6_goes_189 rfl (lv_at hl 1 rfl) ?_
    obtain ⟨v40, hg, hf⟩ := bq_b1s hf
    refine bq_cV (bs := [stB d sa σ, viB d ca ν, coB d ca dy fa κ, lsB d ca L mc E.1, giB ca E.1 κ, P]) (bc := [coB d ca dy fa κ]) (br := [stB d sa σ, viB d ca ν, lsB d ca L mc E.1, giB ca E.1 κ, P]) (bc' := [coB d ca dy fa κ]) (bs' := [stB d sa σ, viB d ca ν, coB d ca dy fa κ, lsB d ca L mc E.1, giB ca E.1 κ, P]) (As := []) (rest := [.int x2]) (o := (some (.int v40))) C hkc hks (met_co_cells hok hamb hg) (bq_pm [2, 0, 1, 3, 4, 5] rfl rfl rfl) (bq_pm [1, 2, 0, 3, 4, 5] rfl rfl rfl) (lw_V q864 q865 q866 q114 q867) (hd_X2_cells) (Nat.le_of_ble_eq_true rfl) (Nat.le_of_ble_eq_true rfl) (va_recv hK hP (ci := 2) (q0 := 7) rfl rfl) rfl hl.1 rfl (Nat.le_of_ble_eq_true rfl) dX6_goes_190 hP hD hS (fun H locs hP hD hS => ?_)
    refine lv_icmp_ge (tgt := 217) hx hb dX6_goes_193 (by decide) (fun c41 => ?_) (fun c41 => ?_)
    · have hf := bq_ip c41 hf
      obtain rfl := Option.some.inj hf
      exact hk0 _ _ hP hD hS ls (lv_sub hl [0] rfl)
    · have hf := bq_in c41 hf
      refine lv_aload_n hx hb dX6_goes_196 rfl (lv_at hl 0 rfl) ?_
      refine gX6_get (own := RX6) (fs := (stF sa σ)) (v := .ref (sa 1)) hx hb hts hown hK hP (q0 := 0) rfl 0 (Nat.le_of_ble_eq_true rfl) (hts _ q598) rfl dX6_goes_197 ?_
      refine lv_iload_n hx hb dX6_goes_200 rfl (lv_at hl 2 rfl) ?_
      refine lv_dup2_11 hx hb dX6_goes_201 rfl rfl ?_
      obtain ⟨h42, hf⟩ := bq_cks hf
      refine bq_ild (j := x2.toNatClampNeg) (f := σ 1) (q := 0) hx hb hK hP 1 rfl rfl h42 rfl dX6_goes_202 ?_
      refine lv_aload_n hx hb dX6_goes_203 rfl (lv_at hl 0 rfl) ?_
      refine gX6_get (own := RX6) (fs := (stF sa σ)) (v := .ref (sa 4)) hx hb hts hown hK hP (q0 := 0) rfl 9 (Nat.le_of_ble_eq_true rfl) (hts _ q616) rfl dX6_goes_204 ?_
      refine lv_iload_n hx hb dX6_goes_207 rfl (lv_at hl 2 rfl) ?_
      obtain ⟨h43, hf⟩ := bq_cks hf
      refine bq_ild (j := x2.toNatClampNeg) (f := σ 4) (q := 0) hx hb hK hP 4 rfl rfl h43 rfl dX6_goes_208 ?_
      refine lv_isub hx hb dX6_goes_209 ?_
      obtain ⟨h44, hf⟩ := bq_cks hf
      obtain ⟨σ45, eσ45, hf⟩ := bq_lts hf
      refine bq_ist (j := x2.toNatClampNeg) (f := σ 1) (ws' := (List.flatten ([stB d sa (bq_up σ 1 x2.toNatClampNeg ((σ 1 x2.toNatClampNeg) - (σ 4 x2.toNatClampNeg))), viB d ca ν, coB d ca dy fa κ, lsB d ca L mc E.1, giB ca E.1 κ, P] : List va_W))) hx hb hK hP hD hS 1 rfl rfl h44 rfl rfl dX6_goes_210 (fun H locs hP hD hS => ?_)
      rw [← eσ45] at hP hD
      obtain ⟨v46, ev46, hf⟩ := bq_lts hf
      refine lv_iinc (v := v46) (lv' := [(2, .int v46), (0, .ref (sa 0)), (1, .ref (ca 0))]) hx hb dX6_goes_211 hl (k := 2) rfl (bq_inc (by decide) ev46) (by decide) rfl (fun ls hl => ?_)
      refine lv_goto (tgt := 188) hx hb dX6_goes_214 (by decide) ?_
      exact ih _ _ _ _ _ hf hP hD hS ls (lv_sub hl [1, 2, 0] rfl) hk0
