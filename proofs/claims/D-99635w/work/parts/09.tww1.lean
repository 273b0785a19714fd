set_option maxRecDepth 100000
set_option maxHeartbeats 4000000 in
theorem wk_tw_begin_L57 {p : Program} {e : Env} {R : Room} {s : State} {m : MethodId} {args : Array Value} {below : List Frame} {meth : Method} {c : Code} {A : Nat → Prop} {Q : State → Prop} {l : Launch} {D : va_G} {am : bqAm} {d : Nat → ClassId} {a X : Nat → Nat} {F : Nat} (C : bq_C p R s m args meth c A D bqCl (bqTy d) am cX7_begin 3 RX7 0 0)  :
    ∀ (k : Nat) (x1 : Int32) (x2 : Int32) (σ : bqS) (σ' : bqS) (H : Heap) (locs : List Loc), tw_begin_L57 F k x1 x2 σ = some σ' → va_P D bqCl (tW d a X σ) H → va_D A (tW d a X σ) → va_S A s.heap H locs → ∀ ls : Array Slot, lv_has ls 3 [(0, .ref (a 0)), (1, .int x1), (2, .int x2)] →
      (∀ (H : Heap) (locs : List Loc), va_P D bqCl (tW d a X σ') H → va_D A (tW d a X σ') → va_S A s.heap H locs → ∀ ls : Array Slot, lv_has ls 3 [] → W p l e R s m args below meth c H locs 0 0 Q (F0 m 78 ls [])) →
      W p l e R s m args below meth c H locs 0 0 Q (F0 m 57 ls []) := by
  have C0 := C
  obtain ⟨hx, hb, hown, hts, hml, hlocks, hA, hK, hm, hRf, hRl, hok⟩ := C
  have C := C0
  intro k
  induction k with
  | zero => intro x1 x2 σ σ' H locs hf
            cases hf
  | succ k ih =>
    intro x1 x2 σ σ' H locs hf hP hD hS ls hl hk0
    rw [tw_begin_L57] at hf
    refine lv_iload_n hx hb dX7_begin_57 rfl (lv_at hl 2 rfl) ?_
    refine lv_bipush (v := (9 : Int32)) hx hb dX7_begin_58 (by decide) ?_
    refine lv_icmp_ge (tgt := 78) hx hb dX7_begin_60 (by decide) (fun c13 => ?_) (fun c13 => ?_)
    · have hf := bq_ip c13 hf
      obtain rfl := Option.some.inj hf
      exact hk0 _ _ hP hD hS ls (lv_sub hl [] rfl)
    · have hf := bq_in c13 hf
      refine lv_aload_n hx hb dX7_begin_63 rfl (lv_at hl 0 rfl) ?_
      refine tw_get (v := .ref (a 4)) hx hb hts hown hK hP 5 (Nat.le_of_ble_eq_true rfl) (hts _ q1696) rfl dX7_begin_64 ?_
      refine lv_iload_n hx hb dX7_begin_67 rfl (lv_at hl 1 rfl) ?_
      refine lv_iload_n hx hb dX7_begin_68 rfl (lv_at hl 2 rfl) ?_
      refine lv_iadd hx hb dX7_begin_69 ?_
      refine lv_iconst (v := (0 : Int32)) hx hb dX7_begin_70 (by decide) ?_
      obtain ⟨h15, hf⟩ := bq_cks hf
      obtain ⟨σ14, eσ14, hf⟩ := bq_lts hf
      refine bq_iast hx hb hK hP hD hS tA4 rfl h15 (j := ((x1 + x2).toNatClampNeg)) rfl dX7_begin_71 (fun H locs hP hD hS => ?_)
      rw [← eσ14] at hP hD
      obtain ⟨v16, ev16, hf⟩ := bq_lts hf
      refine lv_iinc (v := v16) (lv' := [(2, .int v16), (0, .ref (a 0)), (1, .int x1)]) hx hb dX7_begin_72 hl (k := 2) rfl (bq_inc (by decide) ev16) (by decide) rfl (fun ls hl => ?_)
      refine lv_goto (tgt := 57) hx hb dX7_begin_75 (by decide) ?_
      exact ih _ _ _ _ _ _ hf hP hD hS ls (lv_sub hl [1, 2, 0] rfl) hk0
set_option maxHeartbeats 4000000 in
theorem met_tw_begin {l : Launch} {D : va_G} {am : bqAm} {d : Nat → ClassId} {a X : Nat → Nat} {F : Nat} {σ : bqS} {σ' : bqS} {x1 : Int32} (hok : bq_Ok am) (hf : tw_begin F σ x1 = some σ') : bq_M l yX7_begin cX7_begin 3 none 0 0 D bqCl (bqTy d) am [.ref (a 0), .int x1] (tW d a X σ) none (tW d a X σ') := by
  unfold tw_begin at hf
  refine bq_of hok (by decide +kernel) (Nat.le_of_ble_eq_true rfl) ?_
  intro p e s m below meth c A ls C hr hP hD hS hl
  have C0 := C
  obtain ⟨hx, hb, hown, hts, hml, hlocks, hA, hK, hm, hRf, hRl, hok⟩ := C
  have C := C0
  have hl : lv_has ls 3 [(0, .ref (a 0)), (1, .int x1)] := hl
  refine lv_aload_n hx hb dX7_begin_0 rfl (lv_at hl 0 rfl) ?_
  refine tw_get (v := .ref (a 4)) hx hb hts hown hK hP 5 (Nat.le_of_ble_eq_true rfl) (hts _ q1696) rfl dX7_begin_1 ?_
  refine lv_iload_n hx hb dX7_begin_4 rfl (lv_at hl 1 rfl) ?_
  refine lv_iconst (v := (3 : Int32)) hx hb dX7_begin_5 (by decide) ?_
  obtain ⟨h2, hf⟩ := bq_cks hf
  obtain ⟨σ1, eσ1, hf⟩ := bq_lts hf
  refine bq_iast hx hb hK hP hD hS tA4 rfl h2 (j := x1.toNatClampNeg) rfl dX7_begin_6 (fun H locs hP hD hS => ?_)
  rw [← eσ1] at hP hD
  refine lv_aload_n hx hb dX7_begin_7 rfl (lv_at hl 0 rfl) ?_
  refine tw_get (v := .ref (a 4)) hx hb hts hown hK hP 5 (Nat.le_of_ble_eq_true rfl) (hts _ q1696) rfl dX7_begin_8 ?_
  refine lv_iload_n hx hb dX7_begin_11 rfl (lv_at hl 1 rfl) ?_
  refine lv_iconst (v := (1 : Int32)) hx hb dX7_begin_12 (by decide) ?_
  refine lv_iadd hx hb dX7_begin_13 ?_
  refine lv_iconst (v := (3 : Int32)) hx hb dX7_begin_14 (by decide) ?_
  obtain ⟨h4, hf⟩ := bq_cks hf
  obtain ⟨σ3, eσ3, hf⟩ := bq_lts hf
  refine bq_iast hx hb hK hP hD hS tA4 rfl h4 (j := ((x1 + (1 : Int32)).toNatClampNeg)) rfl dX7_begin_15 (fun H locs hP hD hS => ?_)
  rw [← eσ3] at hP hD
  refine lv_aload_n hx hb dX7_begin_16 rfl (lv_at hl 0 rfl) ?_
  refine tw_get (v := .ref (a 4)) hx hb hts hown hK hP 5 (Nat.le_of_ble_eq_true rfl) (hts _ q1696) rfl dX7_begin_17 ?_
  refine lv_iload_n hx hb dX7_begin_20 rfl (lv_at hl 1 rfl) ?_
  refine lv_iconst (v := (2 : Int32)) hx hb dX7_begin_21 (by decide) ?_
  refine lv_iadd hx hb dX7_begin_22 ?_
  refine lv_iconst (v := (0 : Int32)) hx hb dX7_begin_23 (by decide) ?_
  obtain ⟨h6, hf⟩ := bq_cks hf
  obtain ⟨σ5, eσ5, hf⟩ := bq_lts hf
  refine bq_iast hx hb hK hP hD hS tA4 rfl h6 (j := ((x1 + (2 : Int32)).toNatClampNeg)) rfl dX7_begin_24 (fun H locs hP hD hS => ?_)
  rw [← eσ5] at hP hD
  refine lv_aload_n hx hb dX7_begin_25 rfl (lv_at hl 0 rfl) ?_
  refine tw_get (v := .ref (a 4)) hx hb hts hown hK hP 5 (Nat.le_of_ble_eq_true rfl) (hts _ q1696) rfl dX7_begin_26 ?_
  refine lv_iload_n hx hb dX7_begin_29 rfl (lv_at hl 1 rfl) ?_
  refine lv_iconst (v := (3 : Int32)) hx hb dX7_begin_30 (by decide) ?_
  refine lv_iadd hx hb dX7_begin_31 ?_
  refine lv_bipush (v := (20 : Int32)) hx hb dX7_begin_32 (by decide) ?_
  obtain ⟨h8, hf⟩ := bq_cks hf
  obtain ⟨σ7, eσ7, hf⟩ := bq_lts hf
  refine bq_iast hx hb hK hP hD hS tA4 rfl h8 (j := ((x1 + (3 : Int32)).toNatClampNeg)) rfl dX7_begin_34 (fun H locs hP hD hS => ?_)
  rw [← eσ7] at hP hD
  refine lv_aload_n hx hb dX7_begin_35 rfl (lv_at hl 0 rfl) ?_
  refine tw_get (v := .ref (a 4)) hx hb hts hown hK hP 5 (Nat.le_of_ble_eq_true rfl) (hts _ q1696) rfl dX7_begin_36 ?_
  refine lv_iload_n hx hb dX7_begin_39 rfl (lv_at hl 1 rfl) ?_
  refine lv_iconst (v := (4 : Int32)) hx hb dX7_begin_40 (by decide) ?_
  refine lv_iadd hx hb dX7_begin_41 ?_
  refine lv_iconst (v := (2 : Int32)) hx hb dX7_begin_42 (by decide) ?_
  obtain ⟨h10, hf⟩ := bq_cks hf
  obtain ⟨σ9, eσ9, hf⟩ := bq_lts hf
  refine bq_iast hx hb hK hP hD hS tA4 rfl h10 (j := ((x1 + (4 : Int32)).toNatClampNeg)) rfl dX7_begin_43 (fun H locs hP hD hS => ?_)
  rw [← eσ9] at hP hD
  refine lv_aload_n hx hb dX7_begin_44 rfl (lv_at hl 0 rfl) ?_
  refine tw_get (v := .ref (a 4)) hx hb hts hown hK hP 5 (Nat.le_of_ble_eq_true rfl) (hts _ q1696) rfl dX7_begin_45 ?_
  refine lv_iload_n hx hb dX7_begin_48 rfl (lv_at hl 1 rfl) ?_
  refine lv_iconst (v := (5 : Int32)) hx hb dX7_begin_49 (by decide) ?_
  refine lv_iadd hx hb dX7_begin_50 ?_
  refine lv_bipush (v := (60 : Int32)) hx hb dX7_begin_51 (by decide) ?_
  obtain ⟨h12, hf⟩ := bq_cks hf
  obtain ⟨σ11, eσ11, hf⟩ := bq_lts hf
  refine bq_iast hx hb hK hP hD hS tA4 rfl h12 (j := ((x1 + (5 : Int32)).toNatClampNeg)) rfl dX7_begin_53 (fun H locs hP hD hS => ?_)
  rw [← eσ11] at hP hD
  refine lv_bipush (v := (6 : Int32)) hx hb dX7_begin_54 (by decide) ?_
  refine lv_istore_n (lv' := [(2, .int (6 : Int32)), (0, .ref (a 0)), (1, .int x1)]) hx hb dX7_begin_56 rfl hl (by decide) rfl (fun ls hl => ?_)
  obtain ⟨σ17, hg, hf⟩ := bq_b1s hf
  refine wk_tw_begin_L57 C _ _ _ _ _ _ _ hg hP hD hS ls (lv_sub hl [1, 2, 0] rfl) ?_
  · intro H locs hP hD hS ls hl
    obtain rfl := Option.some.inj hf
    exact bq_vret C hr hP hD hS dX7_begin_78
set_option maxHeartbeats 4000000 in
theorem met_tw_thrown {l : Launch} {D : va_G} {am : bqAm} {d : Nat → ClassId} {a X : Nat → Nat} {σ : bqS} {r : Int32} (hok : bq_Ok am) (hf : tw_thrown σ = some r) : bq_M l yX7_thrown cX7_thrown 1 (some .int) 0 0 D bqCl (bqTy d) am [.ref (a 0)] (tW d a X σ) (some (.int r)) (tW d a X σ) := by
  unfold tw_thrown at hf
  refine bq_of hok (by decide +kernel) (Nat.le_of_ble_eq_true rfl) ?_
  intro p e s m below meth c A ls C hr hP hD hS hl
  have C0 := C
  obtain ⟨hx, hb, hown, hts, hml, hlocks, hA, hK, hm, hRf, hRl, hok⟩ := C
  have C := C0
  have hl : lv_has ls 1 [(0, .ref (a 0))] := hl
  refine lv_aload_n hx hb dX7_thrown_0 rfl (lv_at hl 0 rfl) ?_
  refine tw_get (v := .int (σ 0 4)) hx hb hts hown hK hP 4 (Nat.le_of_ble_eq_true rfl) (hts _ q1695) rfl dX7_thrown_1 ?_
  obtain rfl := Option.some.inj hf
  exact bq_iret C hr hP hD hS dX7_thrown_4
set_option maxHeartbeats 4000000 in
theorem wk_tw_feed_L23 {p : Program} {e : Env} {R : Room} {s : State} {m : MethodId} {args : Array Value} {below : List Frame} {meth : Method} {c : Code} {A : Nat → Prop} {Q : State → Prop} {l : Launch} {D : va_G} {am : bqAm} {d : Nat → ClassId} {a X : Nat → Nat} {F : Nat} (C : bq_C p R s m args meth c A D bqCl (bqTy d) am cX7_feed 8 RX7 0 0)  :
    ∀ (k : Nat) (x1 : Int32) (x2 : Int32) (x3 : Int32) (x4 : Int32) (x5 : Int32) (x6 : Int32) (σ : bqS) (σ' : bqS) (H : Heap) (locs : List Loc), tw_feed_L23 F k x1 x2 x3 x4 x5 x6 σ = some σ' → va_P D bqCl (tW d a X σ) H → va_D A (tW d a X σ) → va_S A s.heap H locs → ∀ ls : Array Slot, lv_has ls 8 [(0, .ref (a 0)), (1, .int x1), (2, .int x2), (3, .int x3), (4, .int x4), (5, .int x5), (6, .int x6)] →
      (∀ (H : Heap) (locs : List Loc), va_P D bqCl (tW d a X σ') H → va_D A (tW d a X σ') → va_S A s.heap H locs → ∀ ls : Array Slot, lv_has ls 8 [(0, .ref (a 0))] → W p l e R s m args below meth c H locs 0 0 Q (F0 m 120 ls [])) →
      W p l e R s m args below meth c H locs 0 0 Q (F0 m 23 ls []) := by
  have C0 := C
  obtain ⟨hx, hb, hown, hts, hml, hlocks, hA, hK, hm, hRf, hRl, hok⟩ := C
  have C := C0
  intro k
  induction k with
  | zero => intro x1 x2 x3 x4 x5 x6 σ σ' H locs hf
            cases hf
  | succ k ih =>
    intro x1 x2 x3 x4 x5 x6 σ σ' H locs hf hP hD hS ls hl hk0
    rw [tw_feed_L23] at hf
    refine lv_iload hx hb dX7_feed_23 (lv_at hl 6 rfl) ?_
    refine lv_bipush (v := (20 : Int32)) hx hb dX7_feed_25 (by decide) ?_
    refine lv_icmp_ge (tgt := 120) hx hb dX7_feed_27 (by decide) (fun c3 => ?_) (fun c3 => ?_)
    · have hf := bq_ip c3 hf
      obtain rfl := Option.some.inj hf
      exact hk0 _ _ hP hD hS ls (lv_sub hl [0] rfl)
    · have hf := bq_in c3 hf
      refine lv_iload hx hb dX7_feed_30 (lv_at hl 6 rfl) ?_
      refine lv_iconst (v := (4 : Int32)) hx hb dX7_feed_32 (by decide) ?_
      refine lv_icmp_ge (tgt := 40) hx hb dX7_feed_33 (by decide) (fun c4 => ?_) (fun c4 => ?_)
      · have hf := bq_ip c4 hf
        refine lv_iload hx hb dX7_feed_40 (lv_at hl 6 rfl) ?_
        refine lv_bipush (v := (8 : Int32)) hx hb dX7_feed_42 (by decide) ?_
        refine lv_icmp_ge (tgt := 51) hx hb dX7_feed_44 (by decide) (fun c5 => ?_) (fun c5 => ?_)
        · have hf := bq_ip c5 hf
          refine lv_iload hx hb dX7_feed_51 (lv_at hl 6 rfl) ?_
          refine lv_bipush (v := (12 : Int32)) hx hb dX7_feed_53 (by decide) ?_
          refine lv_icmp_ge (tgt := 62) hx hb dX7_feed_55 (by decide) (fun c6 => ?_) (fun c6 => ?_)
          · have hf := bq_ip c6 hf
            refine lv_iload hx hb dX7_feed_62 (lv_at hl 6 rfl) ?_
            refine lv_bipush (v := (16 : Int32)) hx hb dX7_feed_64 (by decide) ?_
            refine lv_icmp_ge (tgt := 74) hx hb dX7_feed_66 (by decide) (fun c7 => ?_) (fun c7 => ?_)
            · have hf := bq_ip c7 hf
              refine lv_iload hx hb dX7_feed_74 (lv_at hl 5 rfl) ?_
              refine lv_istore (lv' := [(7, .int x5), (0, .ref (a 0)), (1, .int x1), (2, .int x2), (3, .int x3), (4, .int x4), (5, .int x5), (6, .int x6)]) hx hb dX7_feed_76 hl (by decide) rfl (fun ls hl => ?_)
              refine lv_aload_n hx hb dX7_feed_78 rfl (lv_at hl 1 rfl) ?_
              refine tw_get (v := .ref (a 13)) hx hb hts hown hK hP 14 (Nat.le_of_ble_eq_true rfl) (hts _ q1705) rfl dX7_feed_79 ?_
              refine lv_aload_n hx hb dX7_feed_82 rfl (lv_at hl 1 rfl) ?_
              refine tw_get (v := .int (σ 0 15)) hx hb hts hown hK hP 15 (Nat.le_of_ble_eq_true rfl) (hts _ q1706) rfl dX7_feed_83 ?_
              refine lv_iload hx hb dX7_feed_86 (lv_at hl 0 rfl) ?_
              refine lv_bipush (v := (24 : Int32)) hx hb dX7_feed_88 (by decide) ?_
              refine lv_bipush (v := (8 : Int32)) hx hb dX7_feed_90 (by decide) ?_
              refine lv_iload hx hb dX7_feed_92 (lv_at hl 7 rfl) ?_
              refine lv_iconst (v := (4 : Int32)) hx hb dX7_feed_94 (by decide) ?_
              refine lv_irem hx hb dX7_feed_95 (by decide) ?_
              refine lv_imul hx hb dX7_feed_96 ?_
              refine lv_isub hx hb dX7_feed_97 ?_
              refine lv_ishr hx hb dX7_feed_98 ?_
              refine lv_sipush (v := (255 : Int32)) hx hb dX7_feed_99 (by decide) ?_
              refine lv_iand hx hb dX7_feed_102 ?_
              obtain ⟨h9, hf⟩ := bq_cks hf
              obtain ⟨σ8, eσ8, hf⟩ := bq_lts hf
              refine bq_iast hx hb hK hP hD hS tA13 rfl h9 (j := ((σ 0 15).toNatClampNeg)) rfl dX7_feed_103 (fun H locs hP hD hS => ?_)
              rw [← eσ8] at hP hD
              refine lv_aload_n hx hb dX7_feed_104 rfl (lv_at hl 1 rfl) ?_
              refine lv_dup hx hb dX7_feed_105 rfl ?_
              refine tw_get (v := .int (σ8 0 15)) hx hb hts hown hK hP 15 (Nat.le_of_ble_eq_true rfl) (hts _ q1706) rfl dX7_feed_106 ?_
              refine lv_iconst (v := (1 : Int32)) hx hb dX7_feed_109 (by decide) ?_
              refine lv_iadd hx hb dX7_feed_110 ?_
              obtain ⟨σ10, eσ10, hf⟩ := bq_lts hf
              refine tw_put (ty := .int) (z := (σ8 0 15) + (1 : Int32)) hx hb hts hown hK hP hD hS 15 (Nat.le_of_ble_eq_true rfl) (hts _ q1706) rfl rfl rfl rfl rfl dX7_feed_111 (fun H locs hP hD hS => ?_)
              rw [← eσ10] at hP hD
              obtain ⟨v11, ev11, hf⟩ := bq_lts hf
              refine lv_iinc (v := v11) (lv' := [(6, .int v11), (7, .int x5), (0, .ref (a 0)), (1, .int x1), (2, .int x2), (3, .int x3), (4, .int x4), (5, .int x5)]) hx hb dX7_feed_114 hl (k := 7) rfl (bq_inc (by decide) ev11) (by decide) rfl (fun ls hl => ?_)
              refine lv_goto (tgt := 23) hx hb dX7_feed_117 (by decide) ?_
              exact ih _ _ _ _ _ _ _ _ _ _ hf hP hD hS ls (lv_sub hl [2, 3, 4, 5, 6, 7, 0] rfl) hk0
            · have hf := bq_in c7 hf
              refine lv_iload hx hb dX7_feed_69 (lv_at hl 4 rfl) ?_
              refine lv_goto (tgt := 76) hx hb dX7_feed_71 (by decide) ?_
              refine lv_istore (lv' := [(7, .int x4), (0, .ref (a 0)), (1, .int x1), (2, .int x2), (3, .int x3), (4, .int x4), (5, .int x5), (6, .int x6)]) hx hb dX7_feed_76 hl (by decide) rfl (fun ls hl => ?_)
              refine lv_aload_n hx hb dX7_feed_78 rfl (lv_at hl 1 rfl) ?_
              refine tw_get (v := .ref (a 13)) hx hb hts hown hK hP 14 (Nat.le_of_ble_eq_true rfl) (hts _ q1705) rfl dX7_feed_79 ?_
              refine lv_aload_n hx hb dX7_feed_82 rfl (lv_at hl 1 rfl) ?_
              refine tw_get (v := .int (σ 0 15)) hx hb hts hown hK hP 15 (Nat.le_of_ble_eq_true rfl) (hts _ q1706) rfl dX7_feed_83 ?_
              refine lv_iload hx hb dX7_feed_86 (lv_at hl 0 rfl) ?_
              refine lv_bipush (v := (24 : Int32)) hx hb dX7_feed_88 (by decide) ?_
              refine lv_bipush (v := (8 : Int32)) hx hb dX7_feed_90 (by decide) ?_
              refine lv_iload hx hb dX7_feed_92 (lv_at hl 7 rfl) ?_
              refine lv_iconst (v := (4 : Int32)) hx hb dX7_feed_94 (by decide) ?_
              refine lv_irem hx hb dX7_feed_95 (by decide) ?_
              refine lv_imul hx hb dX7_feed_96 ?_
              refine lv_isub hx hb dX7_feed_97 ?_
              refine lv_ishr hx hb dX7_feed_98 ?_
              refine lv_sipush (v := (255 : Int32)) hx hb dX7_feed_99 (by decide) ?_
              refine lv_iand hx hb dX7_feed_102 ?_
              obtain ⟨h13, hf⟩ := bq_cks hf
              obtain ⟨σ12, eσ12, hf⟩ := bq_lts hf
              refine bq_iast hx hb hK hP hD hS tA13 rfl h13 (j := ((σ 0 15).toNatClampNeg)) rfl dX7_feed_103 (fun H locs hP hD hS => ?_)
              rw [← eσ12] at hP hD
              refine lv_aload_n hx hb dX7_feed_104 rfl (lv_at hl 1 rfl) ?_
              refine lv_dup hx hb dX7_feed_105 rfl ?_
              refine tw_get (v := .int (σ12 0 15)) hx hb hts hown hK hP 15 (Nat.le_of_ble_eq_true rfl) (hts _ q1706) rfl dX7_feed_106 ?_
              refine lv_iconst (v := (1 : Int32)) hx hb dX7_feed_109 (by decide) ?_
              refine lv_iadd hx hb dX7_feed_110 ?_
              obtain ⟨σ14, eσ14, hf⟩ := bq_lts hf
              refine tw_put (ty := .int) (z := (σ12 0 15) + (1 : Int32)) hx hb hts hown hK hP hD hS 15 (Nat.le_of_ble_eq_true rfl) (hts _ q1706) rfl rfl rfl rfl rfl dX7_feed_111 (fun H locs hP hD hS => ?_)
              rw [← eσ14] at hP hD
              obtain ⟨v15, ev15, hf⟩ := bq_lts hf
              refine lv_iinc (v := v15) (lv' := [(6, .int v15), (7, .int x4), (0, .ref (a 0)), (1, .int x1), (2, .int x2), (3, .int x3), (4, .int x4), (5, .int x5)]) hx hb dX7_feed_114 hl (k := 7) rfl (bq_inc (by decide) ev15) (by decide) rfl (fun ls hl => ?_)
              refine lv_goto (tgt := 23) hx hb dX7_feed_117 (by decide) ?_
              exact ih _ _ _ _ _ _ _ _ _ _ hf hP hD hS ls (lv_sub hl [2, 3, 4, 5, 6, 7, 0] rfl) hk0
          · have hf := bq_in c6 hf
            refine lv_iload_n hx hb dX7_feed_58 rfl (lv_at hl 3 rfl) ?_
            refine lv_goto (tgt := 76) hx hb dX7_feed_59 (by decide) ?_
            refine lv_istore (lv' := [(7, .int x3), (0, .ref (a 0)), (1, .int x1), (2, .int x2), (3, .int x3), (4, .int x4), (5, .int x5), (6, .int x6)]) hx hb dX7_feed_76 hl (by decide) rfl (fun ls hl => ?_)
            refine lv_aload_n hx hb dX7_feed_78 rfl (lv_at hl 1 rfl) ?_
            refine tw_get (v := .ref (a 13)) hx hb hts hown hK hP 14 (Nat.le_of_ble_eq_true rfl) (hts _ q1705) rfl dX7_feed_79 ?_
            refine lv_aload_n hx hb dX7_feed_82 rfl (lv_at hl 1 rfl) ?_
            refine tw_get (v := .int (σ 0 15)) hx hb hts hown hK hP 15 (Nat.le_of_ble_eq_true rfl) (hts _ q1706) rfl dX7_feed_83 ?_
            refine lv_iload hx hb dX7_feed_86 (lv_at hl 0 rfl) ?_
            refine lv_bipush (v := (24 : Int32)) hx hb dX7_feed_88 (by decide) ?_
            refine lv_bipush (v := (8 : Int32)) hx hb dX7_feed_90 (by decide) ?_
            refine lv_iload hx hb dX7_feed_92 (lv_at hl 7 rfl) ?_
            refine lv_iconst (v := (4 : Int32)) hx hb dX7_feed_94 (by decide) ?_
            refine lv_irem hx hb dX7_feed_95 (by decide) ?_
            refine lv_imul hx hb dX7_feed_96 ?_
            refine lv_isub hx hb dX7_feed_97 ?_
            refine lv_ishr hx hb dX7_feed_98 ?_
            refine lv_sipush (v := (255 : Int32)) hx hb dX7_feed_99 (by decide) ?_
            refine lv_iand hx hb dX7_feed_102 ?_
            obtain ⟨h17, hf⟩ := bq_cks hf
            obtain ⟨σ16, eσ16, hf⟩ := bq_lts hf
            refine bq_iast hx hb hK hP hD hS tA13 rfl h17 (j := ((σ 0 15).toNatClampNeg)) rfl dX7_feed_103 (fun H locs hP hD hS => ?_)
            rw [← eσ16] at hP hD
            refine lv_aload_n hx hb dX7_feed_104 rfl (lv_at hl 1 rfl) ?_
            refine lv_dup hx hb dX7_feed_105 rfl ?_
            refine tw_get (v := .int (σ16 0 15)) hx hb hts hown hK hP 15 (Nat.le_of_ble_eq_true rfl) (hts _ q1706) rfl dX7_feed_106 ?_
            refine lv_iconst (v := (1 : Int32)) hx hb dX7_feed_109 (by decide) ?_
            refine lv_iadd hx hb dX7_feed_110 ?_
            obtain ⟨σ18, eσ18, hf⟩ := bq_lts hf
            refine tw_put (ty := .int) (z := (σ16 0 15) + (1 : Int32)) hx hb hts hown hK hP hD hS 15 (Nat.le_of_ble_eq_true rfl) (hts _ q1706) rfl rfl rfl rfl rfl dX7_feed_111 (fun H locs hP hD hS => ?_)
            rw [← eσ18] at hP hD
            obtain ⟨v19, ev19, hf⟩ := bq_lts hf
            refine lv_iinc (v := v19) (lv' := [(6, .int v19), (7, .int x3), (0, .ref (a 0)), (1, .int x1), (2, .int x2), (3, .int x3), (4, .int x4), (5, .int x5)]) hx hb dX7_feed_114 hl (k := 7) rfl (bq_inc (by decide) ev19) (by decide) rfl (fun ls hl => ?_)
            refine lv_goto (tgt := 23) hx hb dX7_feed_117 (by decide) ?_
            exact ih _ _ _ _ _ _ _ _ _ _ hf hP hD hS ls (lv_sub hl [2, 3, 4, 5, 6, 7, 0] rfl) hk0
        · have hf := bq_in c5 hf
          refine lv_iload_n hx hb dX7_feed_47 rfl (lv_at hl 2 rfl) ?_
          refine lv_goto (tgt := 76) hx hb dX7_feed_48 (by decide) ?_
          refine lv_istore (lv' := [(7, .int x2), (0, .ref (a 0)), (1, .int x1), (2, .int x2), (3, .int x3), (4, .int x4), (5, .int x5), (6, .int x6)]) hx hb dX7_feed_76 hl (by decide) rfl (fun ls hl => ?_)
          refine lv_aload_n hx hb dX7_feed_78 rfl (lv_at hl 1 rfl) ?_
          refine tw_get (v := .ref (a 13)) hx hb hts hown hK hP 14 (Nat.le_of_ble_eq_true rfl) (hts _ q1705) rfl dX7_feed_79 ?_
          refine lv_aload_n hx hb dX7_feed_82 rfl (lv_at hl 1 rfl) ?_
          refine tw_get (v := .int (σ 0 15)) hx hb hts hown hK hP 15 (Nat.le_of_ble_eq_true rfl) (hts _ q1706) rfl dX7_feed_83 ?_
          refine lv_iload hx hb dX7_feed_86 (lv_at hl 0 rfl) ?_
          refine lv_bipush (v := (24 : Int32)) hx hb dX7_feed_88 (by decide) ?_
          refine lv_bipush (v := (8 : Int32)) hx hb dX7_feed_90 (by decide) ?_
          refine lv_iload hx hb dX7_feed_92 (lv_at hl 7 rfl) ?_
          refine lv_iconst (v := (4 : Int32)) hx hb dX7_feed_94 (by decide) ?_
          refine lv_irem hx hb dX7_feed_95 (by decide) ?_
          refine lv_imul hx hb dX7_feed_96 ?_
          refine lv_isub hx hb dX7_feed_97 ?_
          refine lv_ishr hx hb dX7_feed_98 ?_
          refine lv_sipush (v := (255 : Int32)) hx hb dX7_feed_99 (by decide) ?_
          refine lv_iand hx hb dX7_feed_102 ?_
          obtain ⟨h21, hf⟩ := bq_cks hf
          obtain ⟨σ20, eσ20, hf⟩ := bq_lts hf
          refine bq_iast hx hb hK hP hD hS tA13 rfl h21 (j := ((σ 0 15).toNatClampNeg)) rfl dX7_feed_103 (fun H locs hP hD hS => ?_)
          rw [← eσ20] at hP hD
          refine lv_aload_n hx hb dX7_feed_104 rfl (lv_at hl 1 rfl) ?_
          refine lv_dup hx hb dX7_feed_105 rfl ?_
          refine tw_get (v := .int (σ20 0 15)) hx hb hts hown hK hP 15 (Nat.le_of_ble_eq_true rfl) (hts _ q1706) rfl dX7_feed_106 ?_
          refine lv_iconst (v := (1 : Int32)) hx hb dX7_feed_109 (by decide) ?_
          refine lv_iadd hx hb dX7_feed_110 ?_
          obtain ⟨σ22, eσ22, hf⟩ := bq_lts hf
          refine tw_put (ty := .int) (z := (σ20 0 15) + (1 : Int32)) hx hb hts hown hK hP hD hS 15 (Nat.le_of_ble_eq_true rfl) (hts _ q1706) rfl rfl rfl rfl rfl dX7_feed_111 (fun H locs hP hD hS => ?_)
          rw [← eσ22] at hP hD
          obtain ⟨v23, ev23, hf⟩ := bq_lts hf
          refine lv_iinc (v := v23) (lv' := [(6, .int v23), (7, .int x2), (0, .ref (a 0)), (1, .int x1), (2, .int x2), (3, .int x3), (4, .int x4), (5, .int x5)]) hx hb dX7_feed_114 hl (k := 7) rfl (bq_inc (by decide) ev23) (by decide) rfl (fun ls hl => ?_)
          refine lv_goto (tgt := 23) hx hb dX7_feed_117 (by decide) ?_
          exact ih _ _ _ _ _ _ _ _ _ _ hf hP hD hS ls (lv_sub hl [2, 3, 4, 5, 6, 7, 0] rfl) hk0
      · have hf := bq_in c4 hf
        refine lv_iload_n hx hb dX7_feed_36 rfl (lv_at hl 1 rfl) ?_
        refine lv_goto (tgt := 76) hx hb dX7_feed_37 (by decide) ?_
        refine lv_istore (lv' := [(7, .int x1), (0, .ref (a 0)), (1, .int x1), (2, .int x2), (3, .int x3), (4, .int x4), (5, .int x5), (6, .int x6)]) hx hb dX7_feed_76 hl (by decide) rfl (fun ls hl => ?_)
        refine lv_aload_n hx hb dX7_feed_78 rfl (lv_at hl 1 rfl) ?_
        refine tw_get (v := .ref (a 13)) hx hb hts hown hK hP 14 (Nat.le_of_ble_eq_true rfl) (hts _ q1705) rfl dX7_feed_79 ?_
        refine lv_aload_n hx hb dX7_feed_82 rfl (lv_at hl 1 rfl) ?_
        refine tw_get (v := .int (σ 0 15)) hx hb hts hown hK hP 15 (Nat.le_of_ble_eq_true rfl) (hts _ q1706) rfl dX7_feed_83 ?_
        refine lv_iload hx hb dX7_feed_86 (lv_at hl 0 rfl) ?_
        refine lv_bipush (v := (24 : Int32)) hx hb dX7_feed_88 (by decide) ?_
        refine lv_bipush (v := (8 : Int32)) hx hb dX7_feed_90 (by decide) ?_
        refine lv_iload hx hb dX7_feed_92 (lv_at hl 7 rfl) ?_
        refine lv_iconst (v := (4 : Int32)) hx hb dX7_feed_94 (by decide) ?_
        refine lv_irem hx hb dX7_feed_95 (by decide) ?_
        refine lv_imul hx hb dX7_feed_96 ?_
        refine lv_isub hx hb dX7_feed_97 ?_
        refine lv_ishr hx hb dX7_feed_98 ?_
        refine lv_sipush (v := (255 : Int32)) hx hb dX7_feed_99 (by decide) ?_
        refine lv_iand hx hb dX7_feed_102 ?_
        obtain ⟨h25, hf⟩ := bq_cks hf
        obtain ⟨σ24, eσ24, hf⟩ := bq_lts hf
        refine bq_iast hx hb hK hP hD hS tA13 rfl h25 (j := ((σ 0 15).toNatClampNeg)) rfl dX7_feed_103 (fun H locs hP hD hS => ?_)
        rw [← eσ24] at hP hD
        refine lv_aload_n hx hb dX7_feed_104 rfl (lv_at hl 1 rfl) ?_
        refine lv_dup hx hb dX7_feed_105 rfl ?_
        refine tw_get (v := .int (σ24 0 15)) hx hb hts hown hK hP 15 (Nat.le_of_ble_eq_true rfl) (hts _ q1706) rfl dX7_feed_106 ?_
        refine lv_iconst (v := (1 : Int32)) hx hb dX7_feed_109 (by decide) ?_
        refine lv_iadd hx hb dX7_feed_110 ?_
        obtain ⟨σ26, eσ26, hf⟩ := bq_lts hf
        refine tw_put (ty := .int) (z := (σ24 0 15) + (1 : Int32)) hx hb hts hown hK hP hD hS 15 (Nat.le_of_ble_eq_true rfl) (hts _ q1706) rfl rfl rfl rfl rfl dX7_feed_111 (fun H locs hP hD hS => ?_)
        rw [← eσ26] at hP hD
        obtain ⟨v27, ev27, hf⟩ := bq_lts hf
        refine lv_iinc (v := v27) (lv' := [(6, .int v27), (7, .int x1), (0, .ref (a 0)), (1, .int x1), (2, .int x2), (3, .int x3), (4, .int x4), (5, .int x5)]) hx hb dX7_feed_114 hl (k := 7) rfl (bq_inc (by decide) ev27) (by decide) rfl (fun ls hl => ?_)
        refine lv_goto (tgt := 23) hx hb dX7_feed_117 (by decide) ?_
        exact ih _ _ _ _ _ _ _ _ _ _ hf hP hD hS ls (lv_sub hl [2, 3, 4, 5, 6, 7, 0] rfl) hk0
set_option maxHeartbeats 4000000 in
theorem met_tw_feed {l : Launch} {D : va_G} {am : bqAm} {d : Nat → ClassId} {a X : Nat → Nat} {F : Nat} {σ : bqS} {σ' : bqS} {r : Int32} {x1 : Int32} {x2 : Int32} {x3 : Int32} {x4 : Int32} {x5 : Int32} (hok : bq_Ok am) (hf : tw_feed F σ x1 x2 x3 x4 x5 = some (r, σ')) : bq_M l yX7_feed cX7_feed 8 (some .int) 0 0 D bqCl (bqTy d) am [.ref (a 0), .int x1, .int x2, .int x3, .int x4, .int x5] (tW d a X σ) (some (.int r)) (tW d a X σ') := by
  unfold tw_feed at hf
  refine bq_of hok (by decide +kernel) (Nat.le_of_ble_eq_true rfl) ?_
  intro p e s m below meth c A ls C hr hP hD hS hl
  have C0 := C
  obtain ⟨hx, hb, hown, hts, hml, hlocks, hA, hK, hm, hRf, hRl, hok⟩ := C
  have C := C0
  have hl : lv_has ls 8 [(0, .ref (a 0)), (1, .int x1), (2, .int x2), (3, .int x3), (4, .int x4), (5, .int x5)] := hl
  refine lv_aload_n hx hb dX7_feed_0 rfl (lv_at hl 0 rfl) ?_
  refine lv_iconst (v := (0 : Int32)) hx hb dX7_feed_1 (by decide) ?_
  obtain ⟨σ1, eσ1, hf⟩ := bq_lts hf
  refine tw_put (ty := .int) (z := (0 : Int32)) hx hb hts hown hK hP hD hS 4 (Nat.le_of_ble_eq_true rfl) (hts _ q1695) rfl rfl rfl rfl rfl dX7_feed_2 (fun H locs hP hD hS => ?_)
  rw [← eσ1] at hP hD
  refine lv_aload_n hx hb dX7_feed_5 rfl (lv_at hl 0 rfl) ?_
  refine tw_get (v := .int (σ1 0 15)) hx hb hts hown hK hP 15 (Nat.le_of_ble_eq_true rfl) (hts _ q1706) rfl dX7_feed_6 ?_
  refine lv_bipush (v := (20 : Int32)) hx hb dX7_feed_9 (by decide) ?_
  refine lv_iadd hx hb dX7_feed_11 ?_
  refine lv_sipush (v := (700 : Int32)) hx hb dX7_feed_12 (by decide) ?_
  refine lv_icmp_le (tgt := 20) hx hb dX7_feed_15 (by decide) (fun c2 => ?_) (fun c2 => ?_)
  · have hf := bq_ip c2 hf
    refine lv_iconst (v := (0 : Int32)) hx hb dX7_feed_20 (by decide) ?_
    refine lv_istore (lv' := [(6, .int (0 : Int32)), (0, .ref (a 0)), (1, .int x1), (2, .int x2), (3, .int x3), (4, .int x4), (5, .int x5)]) hx hb dX7_feed_21 hl (by decide) rfl (fun ls hl => ?_)
    obtain ⟨σ28, hg, hf⟩ := bq_b1s hf
    refine wk_tw_feed_L23 C _ _ _ _ _ _ _ _ _ _ _ hg hP hD hS ls (lv_sub hl [1, 2, 3, 4, 5, 6, 0] rfl) ?_
    · intro H locs hP hD hS ls hl
      refine lv_aload_n hx hb dX7_feed_120 rfl (lv_at hl 0 rfl) ?_
      refine tw_get (v := .int (σ28 0 15)) hx hb hts hown hK hP 15 (Nat.le_of_ble_eq_true rfl) (hts _ q1706) rfl dX7_feed_121 ?_
      obtain ⟨rfl, rfl⟩ := bq_p2 hf
      exact bq_iret C hr hP hD hS dX7_feed_124
  · have hf := bq_in c2 hf
    refine lv_iconst (v := (-1 : Int32)) hx hb dX7_feed_18 (by decide) ?_
    obtain ⟨rfl, rfl⟩ := bq_p2 hf
    exact bq_iret C hr hP hD hS dX7_feed_19
set_option maxHeartbeats 4000000 in
theorem met_tw_fail {l : Launch} {D : va_G} {am : bqAm} {d : Nat → ClassId} {a X : Nat → Nat} {σ : bqS} {σ' : bqS} {r : Int32} {x1 : Int32} (hok : bq_Ok am) (hf : tw_fail σ x1 = some (r, σ')) : bq_M l yX7_fail cX7_fail 2 (some .int) 0 0 D bqCl (bqTy d) am [.ref (a 0), .int x1] (tW d a X σ) (some (.int r)) (tW d a X σ') := by
  unfold tw_fail at hf
  refine bq_of hok (by decide +kernel) (Nat.le_of_ble_eq_true rfl) ?_
  intro p e s m below meth c A ls C hr hP hD hS hl
  have C0 := C
  obtain ⟨hx, hb, hown, hts, hml, hlocks, hA, hK, hm, hRf, hRl, hok⟩ := C
  have C := C0
  have hl : lv_has ls 2 [(0, .ref (a 0)), (1, .int x1)] := hl
  refine lv_aload_n hx hb dX7_fail_0 rfl (lv_at hl 0 rfl) ?_
  refine lv_iload_n hx hb dX7_fail_1 rfl (lv_at hl 1 rfl) ?_
  obtain ⟨σ1, eσ1, hf⟩ := bq_lts hf
  refine tw_put (ty := .int) (z := x1) hx hb hts hown hK hP hD hS 4 (Nat.le_of_ble_eq_true rfl) (hts _ q1695) rfl rfl rfl rfl rfl dX7_fail_2 (fun H locs hP hD hS => ?_)
  rw [← eσ1] at hP hD
  refine lv_iconst (v := (0 : Int32)) hx hb dX7_fail_5 (by decide) ?_
  obtain ⟨rfl, rfl⟩ := bq_p2 hf
  exact bq_iret C hr hP hD hS dX7_fail_6
set_option maxHeartbeats 4000000 in
theorem met_tw_byteAt {l : Launch} {D : va_G} {am : bqAm} {d : Nat → ClassId} {a X : Nat → Nat} {σ : bqS} {r : Int32} {x1 : Int32} (hok : bq_Ok am) (hf : tw_byteAt σ x1 = some r) : bq_M l yX7_byteAt cX7_byteAt 2 (some .int) 0 0 D bqCl (bqTy d) am [.ref (a 0), .int x1] (tW d a X σ) (some (.int r)) (tW d a X σ) := by
  unfold tw_byteAt at hf
  refine bq_of hok (by decide +kernel) (Nat.le_of_ble_eq_true rfl) ?_
  intro p e s m below meth c A ls C hr hP hD hS hl
  have C0 := C
  obtain ⟨hx, hb, hown, hts, hml, hlocks, hA, hK, hm, hRf, hRl, hok⟩ := C
  have C := C0
  have hl : lv_has ls 2 [(0, .ref (a 0)), (1, .int x1)] := hl
  refine lv_iload_n hx hb dX7_byteAt_0 rfl (lv_at hl 1 rfl) ?_
  refine lv_aload_n hx hb dX7_byteAt_1 rfl (lv_at hl 0 rfl) ?_
  refine tw_get (v := .int (σ 0 17)) hx hb hts hown hK hP 17 (Nat.le_of_ble_eq_true rfl) (hts _ q1708) rfl dX7_byteAt_2 ?_
  refine lv_icmp_ge (tgt := 17) hx hb dX7_byteAt_5 (by decide) (fun c1 => ?_) (fun c1 => ?_)
  · have hf := bq_ip c1 hf
    refine lv_iconst (v := (-1 : Int32)) hx hb dX7_byteAt_17 (by decide) ?_
    obtain rfl := Option.some.inj hf
    exact bq_iret C hr hP hD hS dX7_byteAt_18
  · have hf := bq_in c1 hf
    refine lv_aload_n hx hb dX7_byteAt_8 rfl (lv_at hl 0 rfl) ?_
    refine tw_get (v := .ref (a 13)) hx hb hts hown hK hP 14 (Nat.le_of_ble_eq_true rfl) (hts _ q1705) rfl dX7_byteAt_9 ?_
    refine lv_iload_n hx hb dX7_byteAt_12 rfl (lv_at hl 1 rfl) ?_
    obtain ⟨h2, hf⟩ := bq_cks hf
    refine bq_iald hx hb hK hP tA13 rfl h2 (j := x1.toNatClampNeg) rfl dX7_byteAt_13 ?_
    refine lv_goto (tgt := 18) hx hb dX7_byteAt_14 (by decide) ?_
    obtain rfl := Option.some.inj hf
    exact bq_iret C hr hP hD hS dX7_byteAt_18
set_option maxHeartbeats 4000000 in
theorem met_tw_isLetter {l : Launch} {D : va_G} {cl : List vw_C} {tys : List (ClassId × FieldType)} {am : bqAm} {w : va_W} {r : Int32} {x0 : Int32} (hok : bq_Ok am) (hf : tw_isLetter x0 = some r) : bq_M l yX7_isLetter cX7_isLetter 1 (some .boolean) 0 0 D cl tys am [.int x0] w (some (.int r)) w := by
  unfold tw_isLetter at hf
  refine bq_of hok (by decide +kernel) (Nat.le_of_ble_eq_true rfl) ?_
  intro p e s m below meth c A ls C hr hP hD hS hl
  have C0 := C
  obtain ⟨hx, hb, hown, hts, hml, hlocks, hA, hK, hm, hRf, hRl, hok⟩ := C
  have C := C0
  have hl : lv_has ls 1 [(0, .int x0)] := hl
  refine lv_iload_n hx hb dX7_isLetter_0 rfl (lv_at hl 0 rfl) ?_
  refine lv_bipush (v := (97 : Int32)) hx hb dX7_isLetter_1 (by decide) ?_
  refine lv_icmp_lt (tgt := 16) hx hb dX7_isLetter_3 (by decide) (fun c1 => ?_) (fun c1 => ?_)
  · have hf := bq_ip c1 hf
    refine lv_iconst (v := (0 : Int32)) hx hb dX7_isLetter_16 (by decide) ?_
    obtain rfl := Option.some.inj hf
    exact bq_zret C hr (by decide) hP hD hS dX7_isLetter_17
  · have hf := bq_in c1 hf
    refine lv_iload_n hx hb dX7_isLetter_6 rfl (lv_at hl 0 rfl) ?_
    refine lv_bipush (v := (122 : Int32)) hx hb dX7_isLetter_7 (by decide) ?_
    refine lv_icmp_gt (tgt := 16) hx hb dX7_isLetter_9 (by decide) (fun c2 => ?_) (fun c2 => ?_)
    · have hf := bq_ip c2 hf
      refine lv_iconst (v := (0 : Int32)) hx hb dX7_isLetter_16 (by decide) ?_
      obtain rfl := Option.some.inj hf
      exact bq_zret C hr (by decide) hP hD hS dX7_isLetter_17
    · have hf := bq_in c2 hf
      refine lv_iconst (v := (1 : Int32)) hx hb dX7_isLetter_12 (by decide) ?_
      refine lv_goto (tgt := 17) hx hb dX7_isLetter_13 (by decide) ?_
      obtain rfl := Option.some.inj hf
      exact bq_zret C hr (by decide) hP hD hS dX7_isLetter_17
set_option maxHeartbeats 4000000 in
theorem met_tw_isDigit {l : Launch} {D : va_G} {cl : List vw_C} {tys : List (ClassId × FieldType)} {am : bqAm} {w : va_W} {r : Int32} {x0 : Int32} (hok : bq_Ok am) (hf : tw_isDigit x0 = some r) : bq_M l yX7_isDigit cX7_isDigit 1 (some .boolean) 0 0 D cl tys am [.int x0] w (some (.int r)) w := by
  unfold tw_isDigit at hf
  refine bq_of hok (by decide +kernel) (Nat.le_of_ble_eq_true rfl) ?_
  intro p e s m below meth c A ls C hr hP hD hS hl
  have C0 := C
  obtain ⟨hx, hb, hown, hts, hml, hlocks, hA, hK, hm, hRf, hRl, hok⟩ := C
  have C := C0
  have hl : lv_has ls 1 [(0, .int x0)] := hl
  refine lv_iload_n hx hb dX7_isDigit_0 rfl (lv_at hl 0 rfl) ?_
  refine lv_bipush (v := (48 : Int32)) hx hb dX7_isDigit_1 (by decide) ?_
  refine lv_icmp_lt (tgt := 16) hx hb dX7_isDigit_3 (by decide) (fun c1 => ?_) (fun c1 => ?_)
  · have hf := bq_ip c1 hf
    refine lv_iconst (v := (0 : Int32)) hx hb dX7_isDigit_16 (by decide) ?_
    obtain rfl := Option.some.inj hf
    exact bq_zret C hr (by decide) hP hD hS dX7_isDigit_17
  · have hf := bq_in c1 hf
    refine lv_iload_n hx hb dX7_isDigit_6 rfl (lv_at hl 0 rfl) ?_
    refine lv_bipush (v := (57 : Int32)) hx hb dX7_isDigit_7 (by decide) ?_
    refine lv_icmp_gt (tgt := 16) hx hb dX7_isDigit_9 (by decide) (fun c2 => ?_) (fun c2 => ?_)
    · have hf := bq_ip c2 hf
      refine lv_iconst (v := (0 : Int32)) hx hb dX7_isDigit_16 (by decide) ?_
      obtain rfl := Option.some.inj hf
      exact bq_zret C hr (by decide) hP hD hS dX7_isDigit_17
    · have hf := bq_in c2 hf
      refine lv_iconst (v := (1 : Int32)) hx hb dX7_isDigit_12 (by decide) ?_
      refine lv_goto (tgt := 17) hx hb dX7_isDigit_13 (by decide) ?_
      obtain rfl := Option.some.inj hf
      exact bq_zret C hr (by decide) hP hD hS dX7_isDigit_17
set_option maxHeartbeats 4000000 in
theorem met_tw_isMark {l : Launch} {D : va_G} {cl : List vw_C} {tys : List (ClassId × FieldType)} {am : bqAm} {w : va_W} {r : Int32} {x0 : Int32} (hok : bq_Ok am) (hf : tw_isMark x0 = some r) : bq_M l yX7_isMark cX7_isMark 1 (some .boolean) 0 0 D cl tys am [.int x0] w (some (.int r)) w := by
  unfold tw_isMark at hf
  refine bq_of hok (by decide +kernel) (Nat.le_of_ble_eq_true rfl) ?_
  intro p e s m below meth c A ls C hr hP hD hS hl
  have C0 := C
  obtain ⟨hx, hb, hown, hts, hml, hlocks, hA, hK, hm, hRf, hRl, hok⟩ := C
  have C := C0
  have hl : lv_has ls 1 [(0, .int x0)] := hl
  refine lv_iload_n hx hb dX7_isMark_0 rfl (lv_at hl 0 rfl) ?_
  refine lv_bipush (v := (59 : Int32)) hx hb dX7_isMark_1 (by decide) ?_
  refine lv_icmp_eq (tgt := 54) hx hb dX7_isMark_3 (by decide) (fun c1 => ?_) (fun c1 => ?_)
  · have hf := bq_ip c1 hf
    refine lv_iconst (v := (1 : Int32)) hx hb dX7_isMark_54 (by decide) ?_
    refine lv_goto (tgt := 59) hx hb dX7_isMark_55 (by decide) ?_
    obtain rfl := Option.some.inj hf
    exact bq_zret C hr (by decide) hP hD hS dX7_isMark_59
  · have hf := bq_in c1 hf
    refine lv_iload_n hx hb dX7_isMark_6 rfl (lv_at hl 0 rfl) ?_
    refine lv_bipush (v := (40 : Int32)) hx hb dX7_isMark_7 (by decide) ?_
    refine lv_icmp_eq (tgt := 54) hx hb dX7_isMark_9 (by decide) (fun c2 => ?_) (fun c2 => ?_)
    · have hf := bq_ip c2 hf
      refine lv_iconst (v := (1 : Int32)) hx hb dX7_isMark_54 (by decide) ?_
      refine lv_goto (tgt := 59) hx hb dX7_isMark_55 (by decide) ?_
      obtain rfl := Option.some.inj hf
      exact bq_zret C hr (by decide) hP hD hS dX7_isMark_59
    · have hf := bq_in c2 hf
      refine lv_iload_n hx hb dX7_isMark_12 rfl (lv_at hl 0 rfl) ?_
      refine lv_bipush (v := (41 : Int32)) hx hb dX7_isMark_13 (by decide) ?_
      refine lv_icmp_eq (tgt := 54) hx hb dX7_isMark_15 (by decide) (fun c3 => ?_) (fun c3 => ?_)
      · have hf := bq_ip c3 hf
        refine lv_iconst (v := (1 : Int32)) hx hb dX7_isMark_54 (by decide) ?_
        refine lv_goto (tgt := 59) hx hb dX7_isMark_55 (by decide) ?_
        obtain rfl := Option.some.inj hf
        exact bq_zret C hr (by decide) hP hD hS dX7_isMark_59
      · have hf := bq_in c3 hf
        refine lv_iload_n hx hb dX7_isMark_18 rfl (lv_at hl 0 rfl) ?_
        refine lv_bipush (v := (43 : Int32)) hx hb dX7_isMark_19 (by decide) ?_
        refine lv_icmp_eq (tgt := 54) hx hb dX7_isMark_21 (by decide) (fun c4 => ?_) (fun c4 => ?_)
        · have hf := bq_ip c4 hf
          refine lv_iconst (v := (1 : Int32)) hx hb dX7_isMark_54 (by decide) ?_
          refine lv_goto (tgt := 59) hx hb dX7_isMark_55 (by decide) ?_
          obtain rfl := Option.some.inj hf
          exact bq_zret C hr (by decide) hP hD hS dX7_isMark_59
        · have hf := bq_in c4 hf
          refine lv_iload_n hx hb dX7_isMark_24 rfl (lv_at hl 0 rfl) ?_
          refine lv_bipush (v := (45 : Int32)) hx hb dX7_isMark_25 (by decide) ?_
          refine lv_icmp_eq (tgt := 54) hx hb dX7_isMark_27 (by decide) (fun c5 => ?_) (fun c5 => ?_)
          · have hf := bq_ip c5 hf
            refine lv_iconst (v := (1 : Int32)) hx hb dX7_isMark_54 (by decide) ?_
            refine lv_goto (tgt := 59) hx hb dX7_isMark_55 (by decide) ?_
            obtain rfl := Option.some.inj hf
            exact bq_zret C hr (by decide) hP hD hS dX7_isMark_59
          · have hf := bq_in c5 hf
            refine lv_iload_n hx hb dX7_isMark_30 rfl (lv_at hl 0 rfl) ?_
            refine lv_bipush (v := (42 : Int32)) hx hb dX7_isMark_31 (by decide) ?_
            refine lv_icmp_eq (tgt := 54) hx hb dX7_isMark_33 (by decide) (fun c6 => ?_) (fun c6 => ?_)
            · have hf := bq_ip c6 hf
              refine lv_iconst (v := (1 : Int32)) hx hb dX7_isMark_54 (by decide) ?_
              refine lv_goto (tgt := 59) hx hb dX7_isMark_55 (by decide) ?_
              obtain rfl := Option.some.inj hf
              exact bq_zret C hr (by decide) hP hD hS dX7_isMark_59
            · have hf := bq_in c6 hf
              refine lv_iload_n hx hb dX7_isMark_36 rfl (lv_at hl 0 rfl) ?_
              refine lv_bipush (v := (47 : Int32)) hx hb dX7_isMark_37 (by decide) ?_
              refine lv_icmp_eq (tgt := 54) hx hb dX7_isMark_39 (by decide) (fun c7 => ?_) (fun c7 => ?_)
              · have hf := bq_ip c7 hf
                refine lv_iconst (v := (1 : Int32)) hx hb dX7_isMark_54 (by decide) ?_
                refine lv_goto (tgt := 59) hx hb dX7_isMark_55 (by decide) ?_
                obtain rfl := Option.some.inj hf
                exact bq_zret C hr (by decide) hP hD hS dX7_isMark_59
              · have hf := bq_in c7 hf
                refine lv_iload_n hx hb dX7_isMark_42 rfl (lv_at hl 0 rfl) ?_
                refine lv_bipush (v := (60 : Int32)) hx hb dX7_isMark_43 (by decide) ?_
                refine lv_icmp_eq (tgt := 54) hx hb dX7_isMark_45 (by decide) (fun c8 => ?_) (fun c8 => ?_)
                · have hf := bq_ip c8 hf
                  refine lv_iconst (v := (1 : Int32)) hx hb dX7_isMark_54 (by decide) ?_
                  refine lv_goto (tgt := 59) hx hb dX7_isMark_55 (by decide) ?_
                  obtain rfl := Option.some.inj hf
                  exact bq_zret C hr (by decide) hP hD hS dX7_isMark_59
                · have hf := bq_in c8 hf
                  refine lv_iload_n hx hb dX7_isMark_48 rfl (lv_at hl 0 rfl) ?_
                  refine lv_bipush (v := (61 : Int32)) hx hb dX7_isMark_49 (by decide) ?_
                  refine lv_icmp_ne (tgt := 58) hx hb dX7_isMark_51 (by decide) (fun c9 => ?_) (fun c9 => ?_)
                  · have hf := bq_in c9 hf
                    refine lv_iconst (v := (0 : Int32)) hx hb dX7_isMark_58 (by decide) ?_
                    obtain rfl := Option.some.inj hf
                    exact bq_zret C hr (by decide) hP hD hS dX7_isMark_59
                  · have hf := bq_ip c9 hf
                    refine lv_iconst (v := (1 : Int32)) hx hb dX7_isMark_54 (by decide) ?_
                    refine lv_goto (tgt := 59) hx hb dX7_isMark_55 (by decide) ?_
                    obtain rfl := Option.some.inj hf
                    exact bq_zret C hr (by decide) hP hD hS dX7_isMark_59
set_option maxHeartbeats 4000000 in
theorem wk_tw_stepOn_L0 {p : Program} {e : Env} {R : Room} {s : State} {m : MethodId} {args : Array Value} {below : List Frame} {meth : Method} {c : Code} {A : Nat → Prop} {Q : State → Prop} {l : Launch} {D : va_G} {am : bqAm} {d : Nat → ClassId} {a X : Nat → Nat} {F : Nat} (C : bq_C p R s m args meth c A D bqCl (bqTy d) am cX7_stepOn 2 RX7 1 21)  :
    ∀ (k : Nat) (σ : bqS) (σ' : bqS) (H : Heap) (locs : List Loc), tw_stepOn_L0 F k σ = some σ' → va_P D bqCl (tW d a X σ) H → va_D A (tW d a X σ) → va_S A s.heap H locs → ∀ ls : Array Slot, lv_has ls 2 [(0, .ref (a 0))] →
      (∀ (H : Heap) (locs : List Loc), va_P D bqCl (tW d a X σ') H → va_D A (tW d a X σ') → va_S A s.heap H locs → ∀ ls : Array Slot, lv_has ls 2 [(0, .ref (a 0))] → W p l e R s m args below meth c H locs 0 0 Q (F0 m 39 ls [])) →
      W p l e R s m args below meth c H locs 0 0 Q (F0 m 0 ls []) := by
  have C0 := C
  obtain ⟨hx, hb, hown, hts, hml, hlocks, hA, hK, hm, hRf, hRl, hok⟩ := C
  have C := C0
  intro k
  induction k with
  | zero => intro σ σ' H locs hf
            cases hf
  | succ k ih =>
    intro σ σ' H locs hf hP hD hS ls hl hk0
    rw [tw_stepOn_L0] at hf
    refine lv_aload_n hx hb dX7_stepOn_0 rfl (lv_at hl 0 rfl) ?_
    refine lv_aload_n hx hb dX7_stepOn_1 rfl (lv_at hl 0 rfl) ?_
    refine tw_get (v := .int (σ 0 16)) hx hb hts hown hK hP 16 (Nat.le_of_ble_eq_true rfl) (hts _ q1707) rfl dX7_stepOn_2 ?_
    obtain ⟨v1, hg, hf⟩ := bq_b1s hf
    refine bq_callVi (As := [.int (σ 0 16)]) (rest := []) C (met_tw_byteAt hok  hg) (lw_V q1904 q1906 qs52 q140 q1907) (hd_X7_byteAt) (Nat.le_of_ble_eq_true rfl) (Nat.le_of_ble_eq_true rfl) (va_recv hK hP (ci := 0) (q0 := 0) rfl rfl) rfl hl.1 rfl (Nat.le_of_ble_eq_true rfl) dX7_stepOn_5 hP hD hS (fun H locs hP hD hS => ?_)
    refine lv_bipush (v := (32 : Int32)) hx hb dX7_stepOn_8 (by decide) ?_
    refine lv_icmp_eq (tgt := 26) hx hb dX7_stepOn_10 (by decide) (fun c2 => ?_) (fun c2 => ?_)
    · have hf := bq_ip c2 hf
      refine lv_aload_n hx hb dX7_stepOn_26 rfl (lv_at hl 0 rfl) ?_
      refine lv_dup hx hb dX7_stepOn_27 rfl ?_
      refine tw_get (v := .int (σ 0 16)) hx hb hts hown hK hP 16 (Nat.le_of_ble_eq_true rfl) (hts _ q1707) rfl dX7_stepOn_28 ?_
      refine lv_iconst (v := (1 : Int32)) hx hb dX7_stepOn_31 (by decide) ?_
      refine lv_iadd hx hb dX7_stepOn_32 ?_
      obtain ⟨σ3, eσ3, hf⟩ := bq_lts hf
      refine tw_put (ty := .int) (z := (σ 0 16) + (1 : Int32)) hx hb hts hown hK hP hD hS 16 (Nat.le_of_ble_eq_true rfl) (hts _ q1707) rfl rfl rfl rfl rfl dX7_stepOn_33 (fun H locs hP hD hS => ?_)
      rw [← eσ3] at hP hD
      refine lv_goto (tgt := 0) hx hb dX7_stepOn_36 (by decide) ?_
      exact ih _ _ _ _ hf hP hD hS ls (lv_sub hl [0] rfl) hk0
    · have hf := bq_in c2 hf
      refine lv_aload_n hx hb dX7_stepOn_13 rfl (lv_at hl 0 rfl) ?_
      refine lv_aload_n hx hb dX7_stepOn_14 rfl (lv_at hl 0 rfl) ?_
      refine tw_get (v := .int (σ 0 16)) hx hb hts hown hK hP 16 (Nat.le_of_ble_eq_true rfl) (hts _ q1707) rfl dX7_stepOn_15 ?_
      obtain ⟨v4, hg, hf⟩ := bq_b1s hf
      refine bq_callVi (As := [.int (σ 0 16)]) (rest := []) C (met_tw_byteAt hok  hg) (lw_V q1904 q1906 qs52 q140 q1907) (hd_X7_byteAt) (Nat.le_of_ble_eq_true rfl) (Nat.le_of_ble_eq_true rfl) (va_recv hK hP (ci := 0) (q0 := 0) rfl rfl) rfl hl.1 rfl (Nat.le_of_ble_eq_true rfl) dX7_stepOn_18 hP hD hS (fun H locs hP hD hS => ?_)
      refine lv_bipush (v := (10 : Int32)) hx hb dX7_stepOn_21 (by decide) ?_
      refine lv_icmp_ne (tgt := 39) hx hb dX7_stepOn_23 (by decide) (fun c5 => ?_) (fun c5 => ?_)
      · have hf := bq_in c5 hf
        obtain rfl := Option.some.inj hf
        exact hk0 _ _ hP hD hS ls (lv_sub hl [0] rfl)
      · have hf := bq_ip c5 hf
        refine lv_aload_n hx hb dX7_stepOn_26 rfl (lv_at hl 0 rfl) ?_
        refine lv_dup hx hb dX7_stepOn_27 rfl ?_
        refine tw_get (v := .int (σ 0 16)) hx hb hts hown hK hP 16 (Nat.le_of_ble_eq_true rfl) (hts _ q1707) rfl dX7_stepOn_28 ?_
        refine lv_iconst (v := (1 : Int32)) hx hb dX7_stepOn_31 (by decide) ?_
        refine lv_iadd hx hb dX7_stepOn_32 ?_
        obtain ⟨σ6, eσ6, hf⟩ := bq_lts hf
        refine tw_put (ty := .int) (z := (σ 0 16) + (1 : Int32)) hx hb hts hown hK hP hD hS 16 (Nat.le_of_ble_eq_true rfl) (hts _ q1707) rfl rfl rfl rfl rfl dX7_stepOn_33 (fun H locs hP hD hS => ?_)
        rw [← eσ6] at hP hD
        refine lv_goto (tgt := 0) hx hb dX7_stepOn_36 (by decide) ?_
        exact ih _ _ _ _ hf hP hD hS ls (lv_sub hl [0] rfl) hk0
set_option maxHeartbeats 4000000 in
theorem wk_tw_stepOn_L123 {p : Program} {e : Env} {R : Room} {s : State} {m : MethodId} {args : Array Value} {below : List Frame} {meth : Method} {c : Code} {A : Nat → Prop} {Q : State → Prop} {l : Launch} {D : va_G} {am : bqAm} {d : Nat → ClassId} {a X : Nat → Nat} {F : Nat} (C : bq_C p R s m args meth c A D bqCl (bqTy d) am cX7_stepOn 2 RX7 1 21)  :
    ∀ (k : Nat) (σ : bqS) (σ' : bqS) (H : Heap) (locs : List Loc), tw_stepOn_L123 F k σ = some σ' → va_P D bqCl (tW d a X σ) H → va_D A (tW d a X σ) → va_S A s.heap H locs → ∀ ls : Array Slot, lv_has ls 2 [(0, .ref (a 0))] →
      (∀ (H : Heap) (locs : List Loc), va_P D bqCl (tW d a X σ') H → va_D A (tW d a X σ') → va_S A s.heap H locs → ∀ ls : Array Slot, lv_has ls 2 [(0, .ref (a 0))] → W p l e R s m args below meth c H locs 0 0 Q (F0 m 178 ls [])) →
      W p l e R s m args below meth c H locs 0 0 Q (F0 m 123 ls []) := by
  have C0 := C
  obtain ⟨hx, hb, hown, hts, hml, hlocks, hA, hK, hm, hRf, hRl, hok⟩ := C
  have C := C0
  intro k
  induction k with
  | zero => intro σ σ' H locs hf
            cases hf
  | succ k ih =>
    intro σ σ' H locs hf hP hD hS ls hl hk0
    rw [tw_stepOn_L123] at hf
    refine lv_aload_n hx hb dX7_stepOn_123 rfl (lv_at hl 0 rfl) ?_
    refine lv_aload_n hx hb dX7_stepOn_124 rfl (lv_at hl 0 rfl) ?_
    refine tw_get (v := .int (σ 0 16)) hx hb hts hown hK hP 16 (Nat.le_of_ble_eq_true rfl) (hts _ q1707) rfl dX7_stepOn_125 ?_
    obtain ⟨v23, hg, hf⟩ := bq_b1s hf
    refine bq_callVi (As := [.int (σ 0 16)]) (rest := []) C (met_tw_byteAt hok  hg) (lw_V q1904 q1906 qs52 q140 q1907) (hd_X7_byteAt) (Nat.le_of_ble_eq_true rfl) (Nat.le_of_ble_eq_true rfl) (va_recv hK hP (ci := 0) (q0 := 0) rfl rfl) rfl hl.1 rfl (Nat.le_of_ble_eq_true rfl) dX7_stepOn_128 hP hD hS (fun H locs hP hD hS => ?_)
    obtain ⟨v24, hg, hf⟩ := bq_b1s hf
    refine bq_callSi (As := [.int v23]) (rest := []) C (met_tw_isDigit hok  hg) (lw_S q1911 q1912 q140 q1913) (hd_X7_isDigit) (Nat.le_of_ble_eq_true rfl) (Nat.le_of_ble_eq_true rfl) rfl hl.1 rfl (Nat.le_of_ble_eq_true rfl) dX7_stepOn_131 hP hD hS (fun H locs hP hD hS => ?_)
    refine lv_if_eq (tgt := 178) hx hb dX7_stepOn_134 (by decide) (fun c25 => ?_) (fun c25 => ?_)
    · have hf := bq_ip c25 hf
      obtain rfl := Option.some.inj hf
      exact hk0 _ _ hP hD hS ls (lv_sub hl [0] rfl)
    · have hf := bq_in c25 hf
      refine lv_aload_n hx hb dX7_stepOn_137 rfl (lv_at hl 0 rfl) ?_
      refine lv_ldc (v := (100000 : Int32)) hx hb hown (hts _ q1914) dX7_stepOn_138 ?_
      refine lv_bipush (v := (10 : Int32)) hx hb dX7_stepOn_140 (by decide) ?_
      refine lv_aload_n hx hb dX7_stepOn_142 rfl (lv_at hl 0 rfl) ?_
      refine tw_get (v := .int (σ 0 19)) hx hb hts hown hK hP 19 (Nat.le_of_ble_eq_true rfl) (hts _ q1710) rfl dX7_stepOn_143 ?_
      refine lv_imul hx hb dX7_stepOn_146 ?_
      refine lv_aload_n hx hb dX7_stepOn_147 rfl (lv_at hl 0 rfl) ?_
      refine lv_aload_n hx hb dX7_stepOn_148 rfl (lv_at hl 0 rfl) ?_
      refine tw_get (v := .int (σ 0 16)) hx hb hts hown hK hP 16 (Nat.le_of_ble_eq_true rfl) (hts _ q1707) rfl dX7_stepOn_149 ?_
      obtain ⟨v26, hg, hf⟩ := bq_b1s hf
      refine bq_callVi (As := [.int (σ 0 16)]) (rest := [.int ((10 : Int32) * (σ 0 19)), .int (100000 : Int32), .ref (a 0)]) C (met_tw_byteAt hok  hg) (lw_V q1904 q1906 qs52 q140 q1907) (hd_X7_byteAt) (Nat.le_of_ble_eq_true rfl) (Nat.le_of_ble_eq_true rfl) (va_recv hK hP (ci := 0) (q0 := 0) rfl rfl) rfl hl.1 rfl (Nat.le_of_ble_eq_true rfl) dX7_stepOn_152 hP hD hS (fun H locs hP hD hS => ?_)
      refine lv_iadd hx hb dX7_stepOn_155 ?_
      refine lv_bipush (v := (48 : Int32)) hx hb dX7_stepOn_156 (by decide) ?_
      refine lv_isub hx hb dX7_stepOn_158 ?_
      refine va_mmin hx hb (hml.trans hl.1.symm) hown (hts _ q1915) (hts _ q298) (hts _ q127) (hts _ q299) (Nat.le_trans (Nat.le_of_ble_eq_true rfl) hRf) (Nat.le_trans (Nat.le_of_ble_eq_true rfl) hRl) (Nat.zero_le _) (Nat.zero_le _) dX7_stepOn_159 ?_
      obtain ⟨σ27, eσ27, hf⟩ := bq_lts hf
      refine tw_put (ty := .int) (z := if ((((10 : Int32) * (σ 0 19)) + v26) - (48 : Int32)) < (100000 : Int32) then ((((10 : Int32) * (σ 0 19)) + v26) - (48 : Int32)) else (100000 : Int32)) hx hb hts hown hK hP hD hS 19 (Nat.le_of_ble_eq_true rfl) (hts _ q1710) rfl rfl rfl rfl rfl dX7_stepOn_162 (fun H locs hP hD hS => ?_)
      rw [← eσ27] at hP hD
      refine lv_aload_n hx hb dX7_stepOn_165 rfl (lv_at hl 0 rfl) ?_
      refine lv_dup hx hb dX7_stepOn_166 rfl ?_
      refine tw_get (v := .int (σ27 0 16)) hx hb hts hown hK hP 16 (Nat.le_of_ble_eq_true rfl) (hts _ q1707) rfl dX7_stepOn_167 ?_
      refine lv_iconst (v := (1 : Int32)) hx hb dX7_stepOn_170 (by decide) ?_
      refine lv_iadd hx hb dX7_stepOn_171 ?_
      obtain ⟨σ28, eσ28, hf⟩ := bq_lts hf
      refine tw_put (ty := .int) (z := (σ27 0 16) + (1 : Int32)) hx hb hts hown hK hP hD hS 16 (Nat.le_of_ble_eq_true rfl) (hts _ q1707) rfl rfl rfl rfl rfl dX7_stepOn_172 (fun H locs hP hD hS => ?_)
      rw [← eσ28] at hP hD
      refine lv_goto (tgt := 123) hx hb dX7_stepOn_175 (by decide) ?_
      exact ih _ _ _ _ hf hP hD hS ls (lv_sub hl [0] rfl) hk0
set_option maxHeartbeats 4000000 in
theorem wk_tw_stepOn_L76 {p : Program} {e : Env} {R : Room} {s : State} {m : MethodId} {args : Array Value} {below : List Frame} {meth : Method} {c : Code} {A : Nat → Prop} {Q : State → Prop} {l : Launch} {D : va_G} {am : bqAm} {d : Nat → ClassId} {a X : Nat → Nat} {F : Nat} (C : bq_C p R s m args meth c A D bqCl (bqTy d) am cX7_stepOn 2 RX7 1 21)  :
    ∀ (k : Nat) (σ : bqS) (σ' : bqS) (H : Heap) (locs : List Loc), tw_stepOn_L76 F k σ = some σ' → va_P D bqCl (tW d a X σ) H → va_D A (tW d a X σ) → va_S A s.heap H locs → ∀ ls : Array Slot, lv_has ls 2 [(0, .ref (a 0))] →
      (∀ (H : Heap) (locs : List Loc), va_P D bqCl (tW d a X σ') H → va_D A (tW d a X σ') → va_S A s.heap H locs → ∀ ls : Array Slot, lv_has ls 2 [(0, .ref (a 0))] → W p l e R s m args below meth c H locs 0 0 Q (F0 m 103 ls [])) →
      W p l e R s m args below meth c H locs 0 0 Q (F0 m 76 ls []) := by
  have C0 := C
  obtain ⟨hx, hb, hown, hts, hml, hlocks, hA, hK, hm, hRf, hRl, hok⟩ := C
  have C := C0
  intro k
  induction k with
  | zero => intro σ σ' H locs hf
            cases hf
  | succ k ih =>
    intro σ σ' H locs hf hP hD hS ls hl hk0
    rw [tw_stepOn_L76] at hf
    refine lv_aload_n hx hb dX7_stepOn_76 rfl (lv_at hl 0 rfl) ?_
    refine lv_aload_n hx hb dX7_stepOn_77 rfl (lv_at hl 0 rfl) ?_
    refine tw_get (v := .int (σ 0 16)) hx hb hts hown hK hP 16 (Nat.le_of_ble_eq_true rfl) (hts _ q1707) rfl dX7_stepOn_78 ?_
    obtain ⟨v32, hg, hf⟩ := bq_b1s hf
    refine bq_callVi (As := [.int (σ 0 16)]) (rest := []) C (met_tw_byteAt hok  hg) (lw_V q1904 q1906 qs52 q140 q1907) (hd_X7_byteAt) (Nat.le_of_ble_eq_true rfl) (Nat.le_of_ble_eq_true rfl) (va_recv hK hP (ci := 0) (q0 := 0) rfl rfl) rfl hl.1 rfl (Nat.le_of_ble_eq_true rfl) dX7_stepOn_81 hP hD hS (fun H locs hP hD hS => ?_)
    obtain ⟨v33, hg, hf⟩ := bq_b1s hf
    refine bq_callSi (As := [.int v32]) (rest := []) C (met_tw_isLetter hok  hg) (lw_S q1908 q1909 q140 q1910) (hd_X7_isLetter) (Nat.le_of_ble_eq_true rfl) (Nat.le_of_ble_eq_true rfl) rfl hl.1 rfl (Nat.le_of_ble_eq_true rfl) dX7_stepOn_84 hP hD hS (fun H locs hP hD hS => ?_)
    refine lv_if_eq (tgt := 103) hx hb dX7_stepOn_87 (by decide) (fun c34 => ?_) (fun c34 => ?_)
    · have hf := bq_ip c34 hf
      obtain rfl := Option.some.inj hf
      exact hk0 _ _ hP hD hS ls (lv_sub hl [0] rfl)
    · have hf := bq_in c34 hf
      refine lv_aload_n hx hb dX7_stepOn_90 rfl (lv_at hl 0 rfl) ?_
      refine lv_dup hx hb dX7_stepOn_91 rfl ?_
      refine tw_get (v := .int (σ 0 16)) hx hb hts hown hK hP 16 (Nat.le_of_ble_eq_true rfl) (hts _ q1707) rfl dX7_stepOn_92 ?_
      refine lv_iconst (v := (1 : Int32)) hx hb dX7_stepOn_95 (by decide) ?_
      refine lv_iadd hx hb dX7_stepOn_96 ?_
      obtain ⟨σ35, eσ35, hf⟩ := bq_lts hf
      refine tw_put (ty := .int) (z := (σ 0 16) + (1 : Int32)) hx hb hts hown hK hP hD hS 16 (Nat.le_of_ble_eq_true rfl) (hts _ q1707) rfl rfl rfl rfl rfl dX7_stepOn_97 (fun H locs hP hD hS => ?_)
      rw [← eσ35] at hP hD
      refine lv_goto (tgt := 76) hx hb dX7_stepOn_100 (by decide) ?_
      exact ih _ _ _ _ hf hP hD hS ls (lv_sub hl [0] rfl) hk0
set_option maxHeartbeats 4000000 in
theorem met_tw_stepOn {l : Launch} {D : va_G} {am : bqAm} {d : Nat → ClassId} {a X : Nat → Nat} {F : Nat} {σ : bqS} {σ' : bqS} (hok : bq_Ok am) (hf : tw_stepOn F σ = some σ') : bq_M l yX7_stepOn cX7_stepOn 2 none 1 21 D bqCl (bqTy d) am [.ref (a 0)] (tW d a X σ) none (tW d a X σ') := by
  unfold tw_stepOn at hf
  refine bq_of hok (by decide +kernel) (Nat.le_of_ble_eq_true rfl) ?_
  intro p e s m below meth c A ls C hr hP hD hS hl
  have C0 := C
  obtain ⟨hx, hb, hown, hts, hml, hlocks, hA, hK, hm, hRf, hRl, hok⟩ := C
  have C := C0
  have hl : lv_has ls 2 [(0, .ref (a 0))] := hl
  obtain ⟨σ7, hg, hf⟩ := bq_b1s hf
  refine wk_tw_stepOn_L0 C _ _ _ _ _ hg hP hD hS ls (lv_sub hl [0] rfl) ?_
  · intro H locs hP hD hS ls hl
    refine lv_aload_n hx hb dX7_stepOn_39 rfl (lv_at hl 0 rfl) ?_
    refine lv_aload_n hx hb dX7_stepOn_40 rfl (lv_at hl 0 rfl) ?_
    refine tw_get (v := .int (σ7 0 16)) hx hb hts hown hK hP 16 (Nat.le_of_ble_eq_true rfl) (hts _ q1707) rfl dX7_stepOn_41 ?_
    obtain ⟨σ8, eσ8, hf⟩ := bq_lts hf
    refine tw_put (ty := .int) (z := σ7 0 16) hx hb hts hown hK hP hD hS 20 (Nat.le_of_ble_eq_true rfl) (hts _ q1711) rfl rfl rfl rfl rfl dX7_stepOn_44 (fun H locs hP hD hS => ?_)
    rw [← eσ8] at hP hD
    refine lv_aload_n hx hb dX7_stepOn_47 rfl (lv_at hl 0 rfl) ?_
    refine lv_aload_n hx hb dX7_stepOn_48 rfl (lv_at hl 0 rfl) ?_
    refine tw_get (v := .int (σ8 0 16)) hx hb hts hown hK hP 16 (Nat.le_of_ble_eq_true rfl) (hts _ q1707) rfl dX7_stepOn_49 ?_
    obtain ⟨v9, hg, hf⟩ := bq_b1s hf
    refine bq_callVi (As := [.int (σ8 0 16)]) (rest := []) C (met_tw_byteAt hok  hg) (lw_V q1904 q1906 qs52 q140 q1907) (hd_X7_byteAt) (Nat.le_of_ble_eq_true rfl) (Nat.le_of_ble_eq_true rfl) (va_recv hK hP (ci := 0) (q0 := 0) rfl rfl) rfl hl.1 rfl (Nat.le_of_ble_eq_true rfl) dX7_stepOn_52 hP hD hS (fun H locs hP hD hS => ?_)
    refine lv_istore_n (lv' := [(1, .int v9), (0, .ref (a 0))]) hx hb dX7_stepOn_55 rfl hl (by decide) rfl (fun ls hl => ?_)
    refine lv_iload_n hx hb dX7_stepOn_56 rfl (lv_at hl 0 rfl) ?_
    refine lv_iconst (v := (-1 : Int32)) hx hb dX7_stepOn_57 (by decide) ?_
    refine lv_icmp_ne (tgt := 69) hx hb dX7_stepOn_58 (by decide) (fun c10 => ?_) (fun c10 => ?_)
    · have hf := bq_in c10 hf
      refine lv_iload_n hx hb dX7_stepOn_69 rfl (lv_at hl 0 rfl) ?_
      obtain ⟨v11, hg, hf⟩ := bq_b1s hf
      refine bq_callSi (As := [.int v9]) (rest := []) C (met_tw_isLetter hok  hg) (lw_S q1908 q1909 q140 q1910) (hd_X7_isLetter) (Nat.le_of_ble_eq_true rfl) (Nat.le_of_ble_eq_true rfl) rfl hl.1 rfl (Nat.le_of_ble_eq_true rfl) dX7_stepOn_70 hP hD hS (fun H locs hP hD hS => ?_)
      refine lv_if_eq (tgt := 111) hx hb dX7_stepOn_73 (by decide) (fun c12 => ?_) (fun c12 => ?_)
      · have hf := bq_ip c12 hf
        refine lv_iload_n hx hb dX7_stepOn_111 rfl (lv_at hl 0 rfl) ?_
        obtain ⟨v13, hg, hf⟩ := bq_b1s hf
        refine bq_callSi (As := [.int v9]) (rest := []) C (met_tw_isDigit hok  hg) (lw_S q1911 q1912 q140 q1913) (hd_X7_isDigit) (Nat.le_of_ble_eq_true rfl) (Nat.le_of_ble_eq_true rfl) rfl hl.1 rfl (Nat.le_of_ble_eq_true rfl) dX7_stepOn_112 hP hD hS (fun H locs hP hD hS => ?_)
        refine lv_if_eq (tgt := 186) hx hb dX7_stepOn_115 (by decide) (fun c14 => ?_) (fun c14 => ?_)
        · have hf := bq_ip c14 hf
          refine lv_aload_n hx hb dX7_stepOn_186 rfl (lv_at hl 1 rfl) ?_
          refine lv_dup hx hb dX7_stepOn_187 rfl ?_
          refine tw_get (v := .int (σ8 0 16)) hx hb hts hown hK hP 16 (Nat.le_of_ble_eq_true rfl) (hts _ q1707) rfl dX7_stepOn_188 ?_
          refine lv_iconst (v := (1 : Int32)) hx hb dX7_stepOn_191 (by decide) ?_
          refine lv_iadd hx hb dX7_stepOn_192 ?_
          obtain ⟨σ15, eσ15, hf⟩ := bq_lts hf
          refine tw_put (ty := .int) (z := (σ8 0 16) + (1 : Int32)) hx hb hts hown hK hP hD hS 16 (Nat.le_of_ble_eq_true rfl) (hts _ q1707) rfl rfl rfl rfl rfl dX7_stepOn_193 (fun H locs hP hD hS => ?_)
          rw [← eσ15] at hP hD
          refine lv_aload_n hx hb dX7_stepOn_196 rfl (lv_at hl 1 rfl) ?_
          refine lv_iload_n hx hb dX7_stepOn_197 rfl (lv_at hl 0 rfl) ?_
          obtain ⟨v16, hg, hf⟩ := bq_b1s hf
          refine bq_callSi (As := [.int v9]) (rest := [.ref (a 0)]) C (met_tw_isMark hok  hg) (lw_S q1916 q1917 q140 q1918) (hd_X7_isMark) (Nat.le_of_ble_eq_true rfl) (Nat.le_of_ble_eq_true rfl) rfl hl.1 rfl (Nat.le_of_ble_eq_true rfl) dX7_stepOn_198 hP hD hS (fun H locs hP hD hS => ?_)
          refine lv_if_eq (tgt := 208) hx hb dX7_stepOn_201 (by decide) (fun c17 => ?_) (fun c17 => ?_)
          · have hf := bq_ip c17 hf
            refine lv_iconst (v := (4 : Int32)) hx hb dX7_stepOn_208 (by decide) ?_
            obtain ⟨σ18, eσ18, hf⟩ := bq_lts hf
            refine tw_put (ty := .int) (z := (4 : Int32)) hx hb hts hown hK hP hD hS 18 (Nat.le_of_ble_eq_true rfl) (hts _ q1709) rfl rfl rfl rfl rfl dX7_stepOn_209 (fun H locs hP hD hS => ?_)
            rw [← eσ18] at hP hD
            refine lv_aload_n hx hb dX7_stepOn_212 rfl (lv_at hl 1 rfl) ?_
            refine lv_aload_n hx hb dX7_stepOn_213 rfl (lv_at hl 1 rfl) ?_
            refine tw_get (v := .int (σ18 0 16)) hx hb hts hown hK hP 16 (Nat.le_of_ble_eq_true rfl) (hts _ q1707) rfl dX7_stepOn_214 ?_
            obtain ⟨σ19, eσ19, hf⟩ := bq_lts hf
            refine tw_put (ty := .int) (z := σ18 0 16) hx hb hts hown hK hP hD hS 21 (Nat.le_of_ble_eq_true rfl) (hts _ q1712) rfl rfl rfl rfl rfl dX7_stepOn_217 (fun H locs hP hD hS => ?_)
            rw [← eσ19] at hP hD
            obtain rfl := Option.some.inj hf
            exact bq_vret C hr hP hD hS dX7_stepOn_220
          · have hf := bq_in c17 hf
            refine lv_iconst (v := (3 : Int32)) hx hb dX7_stepOn_204 (by decide) ?_
            refine lv_goto (tgt := 209) hx hb dX7_stepOn_205 (by decide) ?_
            obtain ⟨σ20, eσ20, hf⟩ := bq_lts hf
            refine tw_put (ty := .int) (z := (3 : Int32)) hx hb hts hown hK hP hD hS 18 (Nat.le_of_ble_eq_true rfl) (hts _ q1709) rfl rfl rfl rfl rfl dX7_stepOn_209 (fun H locs hP hD hS => ?_)
            rw [← eσ20] at hP hD
            refine lv_aload_n hx hb dX7_stepOn_212 rfl (lv_at hl 1 rfl) ?_
            refine lv_aload_n hx hb dX7_stepOn_213 rfl (lv_at hl 1 rfl) ?_
            refine tw_get (v := .int (σ20 0 16)) hx hb hts hown hK hP 16 (Nat.le_of_ble_eq_true rfl) (hts _ q1707) rfl dX7_stepOn_214 ?_
            obtain ⟨σ21, eσ21, hf⟩ := bq_lts hf
            refine tw_put (ty := .int) (z := σ20 0 16) hx hb hts hown hK hP hD hS 21 (Nat.le_of_ble_eq_true rfl) (hts _ q1712) rfl rfl rfl rfl rfl dX7_stepOn_217 (fun H locs hP hD hS => ?_)
            rw [← eσ21] at hP hD
            obtain rfl := Option.some.inj hf
            exact bq_vret C hr hP hD hS dX7_stepOn_220
        · have hf := bq_in c14 hf
          refine lv_aload_n hx hb dX7_stepOn_118 rfl (lv_at hl 1 rfl) ?_
          refine lv_iconst (v := (0 : Int32)) hx hb dX7_stepOn_119 (by decide) ?_
          obtain ⟨σ22, eσ22, hf⟩ := bq_lts hf
          refine tw_put (ty := .int) (z := (0 : Int32)) hx hb hts hown hK hP hD hS 19 (Nat.le_of_ble_eq_true rfl) (hts _ q1710) rfl rfl rfl rfl rfl dX7_stepOn_120 (fun H locs hP hD hS => ?_)
          rw [← eσ22] at hP hD
          obtain ⟨σ29, hg, hf⟩ := bq_b1s hf
          refine wk_tw_stepOn_L123 C _ _ _ _ _ hg hP hD hS ls (lv_sub hl [1] rfl) ?_
          · intro H locs hP hD hS ls hl
            refine lv_aload_n hx hb dX7_stepOn_178 rfl (lv_at hl 0 rfl) ?_
            refine lv_iconst (v := (2 : Int32)) hx hb dX7_stepOn_179 (by decide) ?_
            obtain ⟨σ30, eσ30, hf⟩ := bq_lts hf
            refine tw_put (ty := .int) (z := (2 : Int32)) hx hb hts hown hK hP hD hS 18 (Nat.le_of_ble_eq_true rfl) (hts _ q1709) rfl rfl rfl rfl rfl dX7_stepOn_180 (fun H locs hP hD hS => ?_)
            rw [← eσ30] at hP hD
            refine lv_goto (tgt := 212) hx hb dX7_stepOn_183 (by decide) ?_
            refine lv_aload_n hx hb dX7_stepOn_212 rfl (lv_at hl 0 rfl) ?_
            refine lv_aload_n hx hb dX7_stepOn_213 rfl (lv_at hl 0 rfl) ?_
            refine tw_get (v := .int (σ30 0 16)) hx hb hts hown hK hP 16 (Nat.le_of_ble_eq_true rfl) (hts _ q1707) rfl dX7_stepOn_214 ?_
            obtain ⟨σ31, eσ31, hf⟩ := bq_lts hf
            refine tw_put (ty := .int) (z := σ30 0 16) hx hb hts hown hK hP hD hS 21 (Nat.le_of_ble_eq_true rfl) (hts _ q1712) rfl rfl rfl rfl rfl dX7_stepOn_217 (fun H locs hP hD hS => ?_)
            rw [← eσ31] at hP hD
            obtain rfl := Option.some.inj hf
            exact bq_vret C hr hP hD hS dX7_stepOn_220
      · have hf := bq_in c12 hf
        obtain ⟨σ36, hg, hf⟩ := bq_b1s hf
        refine wk_tw_stepOn_L76 C _ _ _ _ _ hg hP hD hS ls (lv_sub hl [1] rfl) ?_
        · intro H locs hP hD hS ls hl
          refine lv_aload_n hx hb dX7_stepOn_103 rfl (lv_at hl 0 rfl) ?_
          refine lv_iconst (v := (1 : Int32)) hx hb dX7_stepOn_104 (by decide) ?_
          obtain ⟨σ37, eσ37, hf⟩ := bq_lts hf
          refine tw_put (ty := .int) (z := (1 : Int32)) hx hb hts hown hK hP hD hS 18 (Nat.le_of_ble_eq_true rfl) (hts _ q1709) rfl rfl rfl rfl rfl dX7_stepOn_105 (fun H locs hP hD hS => ?_)
          rw [← eσ37] at hP hD
          refine lv_goto (tgt := 212) hx hb dX7_stepOn_108 (by decide) ?_
          refine lv_aload_n hx hb dX7_stepOn_212 rfl (lv_at hl 0 rfl) ?_
          refine lv_aload_n hx hb dX7_stepOn_213 rfl (lv_at hl 0 rfl) ?_
          refine tw_get (v := .int (σ37 0 16)) hx hb hts hown hK hP 16 (Nat.le_of_ble_eq_true rfl) (hts _ q1707) rfl dX7_stepOn_214 ?_
          obtain ⟨σ38, eσ38, hf⟩ := bq_lts hf
          refine tw_put (ty := .int) (z := σ37 0 16) hx hb hts hown hK hP hD hS 21 (Nat.le_of_ble_eq_true rfl) (hts _ q1712) rfl rfl rfl rfl rfl dX7_stepOn_217 (fun H locs hP hD hS => ?_)
          rw [← eσ38] at hP hD
          obtain rfl := Option.some.inj hf
          exact bq_vret C hr hP hD hS dX7_stepOn_220
    · have hf := bq_ip c10 hf
      refine lv_aload_n hx hb dX7_stepOn_61 rfl (lv_at hl 1 rfl) ?_
      refine lv_iconst (v := (0 : Int32)) hx hb dX7_stepOn_62 (by decide) ?_
      obtain ⟨σ39, eσ39, hf⟩ := bq_lts hf
      refine tw_put (ty := .int) (z := (0 : Int32)) hx hb hts hown hK hP hD hS 18 (Nat.le_of_ble_eq_true rfl) (hts _ q1709) rfl rfl rfl rfl rfl dX7_stepOn_63 (fun H locs hP hD hS => ?_)
      rw [← eσ39] at hP hD
      refine lv_goto (tgt := 212) hx hb dX7_stepOn_66 (by decide) ?_
      refine lv_aload_n hx hb dX7_stepOn_212 rfl (lv_at hl 1 rfl) ?_
      refine lv_aload_n hx hb dX7_stepOn_213 rfl (lv_at hl 1 rfl) ?_
      refine tw_get (v := .int (σ39 0 16)) hx hb hts hown hK hP 16 (Nat.le_of_ble_eq_true rfl) (hts _ q1707) rfl dX7_stepOn_214 ?_
      obtain ⟨σ40, eσ40, hf⟩ := bq_lts hf
      refine tw_put (ty := .int) (z := σ39 0 16) hx hb hts hown hK hP hD hS 21 (Nat.le_of_ble_eq_true rfl) (hts _ q1712) rfl rfl rfl rfl rfl dX7_stepOn_217 (fun H locs hP hD hS => ?_)
      rw [← eσ40] at hP hD
      obtain rfl := Option.some.inj hf
      exact bq_vret C hr hP hD hS dX7_stepOn_220
set_option maxHeartbeats 4000000 in
theorem wk_tw_is_L39 {p : Program} {e : Env} {R : Room} {s : State} {m : MethodId} {args : Array Value} {below : List Frame} {meth : Method} {c : Code} {A : Nat → Prop} {Q : State → Prop} {l : Launch} {D : va_G} {am : bqAm} {d : Nat → ClassId} {a X : Nat → Nat} {F : Nat} {j1 : Nat} (C : bq_C p R s m args meth c A D bqCl (bqTy d) am cX7_is 4 RX7 5 221) (hstr : bq_Str am X) (hj1 : j1 < bqNS) {σ : bqS} :
    ∀ (k : Nat) (x2 : Int32) (x3 : Int32) (y2 : Int32) (H : Heap) (locs : List Loc), tw_is_L39 F j1 σ k x2 x3 = some y2 → va_P D bqCl (tW d a X σ) H → va_D A (tW d a X σ) → va_S A s.heap H locs → ∀ ls : Array Slot, lv_has ls 4 [(0, .ref (a 0)), (1, .ref (X j1)), (2, .int x2), (3, .int x3)] →
      (∀ (H : Heap) (locs : List Loc), va_P D bqCl (tW d a X σ) H → va_D A (tW d a X σ) → va_S A s.heap H locs → ∀ ls : Array Slot, lv_has ls 4 [(2, .int y2)] → W p l e R s m args below meth c H locs 0 0 Q (F0 m 82 ls [])) →
      W p l e R s m args below meth c H locs 0 0 Q (F0 m 39 ls []) := by
  have C0 := C
  obtain ⟨hx, hb, hown, hts, hml, hlocks, hA, hK, hm, hRf, hRl, hok⟩ := C
  have C := C0
  intro k
  induction k with
  | zero => intro x2 x3 y2 H locs hf
            cases hf
  | succ k ih =>
    intro x2 x3 y2 H locs hf hP hD hS ls hl hk0
    rw [tw_is_L39] at hf
    refine lv_iload_n hx hb dX7_is_39 rfl (lv_at hl 2 rfl) ?_
    refine lv_if_eq (tgt := 82) hx hb dX7_is_40 (by decide) (fun c2 => ?_) (fun c2 => ?_)
    · have hf := bq_ip c2 hf
      obtain rfl := Option.some.inj hf
      exact hk0 _ _ hP hD hS ls (lv_sub hl [2] rfl)
    · have hf := bq_in c2 hf
      refine lv_iload_n hx hb dX7_is_43 rfl (lv_at hl 3 rfl) ?_
      refine lv_aload_n hx hb dX7_is_44 rfl (lv_at hl 1 rfl) ?_
      refine bq_callVi (As := []) (rest := [.int x3]) C (met_slen hok hstr hj1) (lw_V q1931 q335 q336 q124 q337) (hd_J9_length) (Nat.le_of_ble_eq_true rfl) (Nat.le_of_ble_eq_true rfl) (bq_srcv hstr hm hj1 hS) rfl hl.1 rfl (Nat.le_of_ble_eq_true rfl) dX7_is_45 hP hD hS (fun H locs hP hD hS => ?_)
      refine lv_icmp_ge (tgt := 82) hx hb dX7_is_48 (by decide) (fun c3 => ?_) (fun c3 => ?_)
      · have hf := bq_ip c3 hf
        obtain rfl := Option.some.inj hf
        exact hk0 _ _ hP hD hS ls (lv_sub hl [2] rfl)
      · have hf := bq_in c3 hf
        refine lv_aload_n hx hb dX7_is_51 rfl (lv_at hl 1 rfl) ?_
        refine lv_iload_n hx hb dX7_is_52 rfl (lv_at hl 3 rfl) ?_
        obtain ⟨h4, hf⟩ := bq_cks hf
        refine bq_callVi (As := [.int x3]) (rest := []) C (met_schr hok hstr hj1 h4) (lw_V q1932 q1287 q1288 q124 q1289) (hd_J9_charAt) (Nat.le_of_ble_eq_true rfl) (Nat.le_of_ble_eq_true rfl) (bq_srcv hstr hm hj1 hS) rfl hl.1 rfl (Nat.le_of_ble_eq_true rfl) dX7_is_53 hP hD hS (fun H locs hP hD hS => ?_)
        refine lv_aload_n hx hb dX7_is_56 rfl (lv_at hl 0 rfl) ?_
        refine tw_get (v := .ref (a 13)) hx hb hts hown hK hP 14 (Nat.le_of_ble_eq_true rfl) (hts _ q1705) rfl dX7_is_57 ?_
        refine lv_aload_n hx hb dX7_is_60 rfl (lv_at hl 0 rfl) ?_
        refine tw_get (v := .int (σ 0 20)) hx hb hts hown hK hP 20 (Nat.le_of_ble_eq_true rfl) (hts _ q1711) rfl dX7_is_61 ?_
        refine lv_iload_n hx hb dX7_is_64 rfl (lv_at hl 3 rfl) ?_
        refine lv_iadd hx hb dX7_is_65 ?_
        obtain ⟨h5, hf⟩ := bq_cks hf
        refine bq_iald hx hb hK hP tA13 rfl h5 (j := ((σ 0 20) + x3).toNatClampNeg) rfl dX7_is_66 ?_
        refine lv_icmp_ne (tgt := 74) hx hb dX7_is_67 (by decide) (fun c6 => ?_) (fun c6 => ?_)
        · have hf := bq_in c6 hf
          refine lv_iconst (v := (0 : Int32)) hx hb dX7_is_74 (by decide) ?_
          refine lv_istore_n (lv' := [(2, .int (0 : Int32)), (0, .ref (a 0)), (1, .ref (X j1)), (3, .int x3)]) hx hb dX7_is_75 rfl hl (by decide) rfl (fun ls hl => ?_)
          obtain ⟨v7, ev7, hf⟩ := bq_lts hf
          refine lv_iinc (v := v7) (lv' := [(3, .int v7), (2, .int (0 : Int32)), (0, .ref (a 0)), (1, .ref (X j1))]) hx hb dX7_is_76 hl (k := 3) rfl (bq_inc (by decide) ev7) (by decide) rfl (fun ls hl => ?_)
          refine lv_goto (tgt := 39) hx hb dX7_is_79 (by decide) ?_
          exact ih _ _ _ _ _ hf hP hD hS ls (lv_sub hl [2, 3, 1, 0] rfl) hk0
        · have hf := bq_ip c6 hf
          refine lv_iconst (v := (1 : Int32)) hx hb dX7_is_70 (by decide) ?_
          refine lv_goto (tgt := 75) hx hb dX7_is_71 (by decide) ?_
          refine lv_istore_n (lv' := [(2, .int (1 : Int32)), (0, .ref (a 0)), (1, .ref (X j1)), (3, .int x3)]) hx hb dX7_is_75 rfl hl (by decide) rfl (fun ls hl => ?_)
          obtain ⟨v8, ev8, hf⟩ := bq_lts hf
          refine lv_iinc (v := v8) (lv' := [(3, .int v8), (2, .int (1 : Int32)), (0, .ref (a 0)), (1, .ref (X j1))]) hx hb dX7_is_76 hl (k := 3) rfl (bq_inc (by decide) ev8) (by decide) rfl (fun ls hl => ?_)
          refine lv_goto (tgt := 39) hx hb dX7_is_79 (by decide) ?_
          exact ih _ _ _ _ _ hf hP hD hS ls (lv_sub hl [2, 3, 1, 0] rfl) hk0
set_option maxHeartbeats 4000000 in
theorem wk_tw_is_J35 {p : Program} {e : Env} {R : Room} {s : State} {m : MethodId} {args : Array Value} {below : List Frame} {meth : Method} {c : Code} {A : Nat → Prop} {l : Launch} {D : va_G} {am : bqAm} {d : Nat → ClassId} {a X : Nat → Nat} {F : Nat} {j1 : Nat} (C : bq_C p R s m args meth c A D bqCl (bqTy d) am cX7_is 4 RX7 5 221) (hstr : bq_Str am X) (hj1 : j1 < bqNS) (hr : meth.sig.returnType = (some .boolean)) (σ : bqS) (r : Int32) (H : Heap) (locs : List Loc) :
      tw_is_J35 F j1 σ = some r → va_P D bqCl (tW d a X σ) H → va_D A (tW d a X σ) → va_S A s.heap H locs → ∀ ls : Array Slot, lv_has ls 4 [(0, .ref (a 0)), (1, .ref (X j1))] →
      W p l e R s m args below meth c H locs 0 0 (MQ below (bq_Q D bqCl (some (.int r)) (tW d a X σ) A) args s 0 0 A) (F0 m 35 ls []) := by
  have C0 := C
  obtain ⟨hx, hb, hown, hts, hml, hlocks, hA, hK, hm, hRf, hRl, hok⟩ := C
  have C := C0
  intro hf hP hD hS ls hl 
  unfold tw_is_J35 at hf
  refine lv_iconst (v := (0 : Int32)) hx hb dX7_is_35 (by decide) ?_
  refine lv_istore_n (lv' := [(2, .int (0 : Int32)), (0, .ref (a 0)), (1, .ref (X j1))]) hx hb dX7_is_36 rfl hl (by decide) rfl (fun ls hl => ?_)
  refine lv_iconst (v := (0 : Int32)) hx hb dX7_is_37 (by decide) ?_
  refine lv_istore_n (lv' := [(3, .int (0 : Int32)), (2, .int (0 : Int32)), (0, .ref (a 0)), (1, .ref (X j1))]) hx hb dX7_is_38 rfl hl (by decide) rfl (fun ls hl => ?_)
  obtain ⟨v9, hg, hf⟩ := bq_b1s hf
  refine wk_tw_is_L39 C hstr hj1 _ _ _ _ _ _ hg hP hD hS ls (lv_sub hl [2, 3, 1, 0] rfl) ?_
  · intro H locs hP hD hS ls hl
    refine lv_iload_n hx hb dX7_is_82 rfl (lv_at hl 0 rfl) ?_
    obtain ⟨h10, hf⟩ := bq_bbs hf
    obtain rfl := Option.some.inj hf
    exact bq_zret C hr h10 hP hD hS dX7_is_83
set_option maxHeartbeats 4000000 in
theorem met_tw_is {l : Launch} {D : va_G} {am : bqAm} {d : Nat → ClassId} {a X : Nat → Nat} {F : Nat} {σ : bqS} {r : Int32} {j1 : Nat} (hok : bq_Ok am) (hstr : bq_Str am X) (hj1 : j1 < bqNS) (hf : tw_is F σ j1 = some r) : bq_M l yX7_is cX7_is 4 (some .boolean) 5 221 D bqCl (bqTy d) am [.ref (a 0), .ref (X j1)] (tW d a X σ) (some (.int r)) (tW d a X σ) := by
  unfold tw_is at hf
  refine bq_of hok (by decide +kernel) (Nat.le_of_ble_eq_true rfl) ?_
  intro p e s m below meth c A ls C hr hP hD hS hl
  have C0 := C
  obtain ⟨hx, hb, hown, hts, hml, hlocks, hA, hK, hm, hRf, hRl, hok⟩ := C
  have C := C0
  have hl : lv_has ls 4 [(0, .ref (a 0)), (1, .ref (X j1))] := hl
  refine lv_aload_n hx hb dX7_is_0 rfl (lv_at hl 0 rfl) ?_
  refine tw_get (v := .int (σ 0 22)) hx hb hts hown hK hP 22 (Nat.le_of_ble_eq_true rfl) (hts _ q1713) rfl dX7_is_1 ?_
  refine lv_if_ne (tgt := 35) hx hb dX7_is_4 (by decide) (fun c1 => ?_) (fun c1 => ?_)
  · have hf := bq_in c1 hf
    exact wk_tw_is_J35 C hstr hj1 hr _ _ _ _ hf hP hD hS ls (lv_sub hl [0, 1] rfl)
  · have hf := bq_ip c1 hf
    refine lv_aload_n hx hb dX7_is_7 rfl (lv_at hl 0 rfl) ?_
    refine tw_get (v := .int (σ 0 18)) hx hb hts hown hK hP 18 (Nat.le_of_ble_eq_true rfl) (hts _ q1709) rfl dX7_is_8 ?_
    refine lv_iconst (v := (1 : Int32)) hx hb dX7_is_11 (by decide) ?_
    refine lv_icmp_ne (tgt := 35) hx hb dX7_is_12 (by decide) (fun c11 => ?_) (fun c11 => ?_)
    · have hf := bq_in c11 hf
      exact wk_tw_is_J35 C hstr hj1 hr _ _ _ _ hf hP hD hS ls (lv_sub hl [0, 1] rfl)
    · have hf := bq_ip c11 hf
      refine lv_aload_n hx hb dX7_is_15 rfl (lv_at hl 1 rfl) ?_
      refine bq_callVi (As := []) (rest := []) C (met_slen hok hstr hj1) (lw_V q1931 q335 q336 q124 q337) (hd_J9_length) (Nat.le_of_ble_eq_true rfl) (Nat.le_of_ble_eq_true rfl) (bq_srcv hstr hm hj1 hS) rfl hl.1 rfl (Nat.le_of_ble_eq_true rfl) dX7_is_16 hP hD hS (fun H locs hP hD hS => ?_)
      refine lv_aload_n hx hb dX7_is_19 rfl (lv_at hl 0 rfl) ?_
      refine tw_get (v := .int (σ 0 21)) hx hb hts hown hK hP 21 (Nat.le_of_ble_eq_true rfl) (hts _ q1712) rfl dX7_is_20 ?_
      refine lv_aload_n hx hb dX7_is_23 rfl (lv_at hl 0 rfl) ?_
      refine tw_get (v := .int (σ 0 20)) hx hb hts hown hK hP 20 (Nat.le_of_ble_eq_true rfl) (hts _ q1711) rfl dX7_is_24 ?_
      refine lv_isub hx hb dX7_is_27 ?_
      refine lv_icmp_ne (tgt := 35) hx hb dX7_is_28 (by decide) (fun c12 => ?_) (fun c12 => ?_)
      · have hf := bq_in c12 hf
        exact wk_tw_is_J35 C hstr hj1 hr _ _ _ _ hf hP hD hS ls (lv_sub hl [0, 1] rfl)
      · have hf := bq_ip c12 hf
        refine lv_iconst (v := (1 : Int32)) hx hb dX7_is_31 (by decide) ?_
        refine lv_goto (tgt := 36) hx hb dX7_is_32 (by decide) ?_
        refine lv_istore_n (lv' := [(2, .int (1 : Int32)), (0, .ref (a 0)), (1, .ref (X j1))]) hx hb dX7_is_36 rfl hl (by decide) rfl (fun ls hl => ?_)
        refine lv_iconst (v := (0 : Int32)) hx hb dX7_is_37 (by decide) ?_
        refine lv_istore_n (lv' := [(3, .int (0 : Int32)), (2, .int (1 : Int32)), (0, .ref (a 0)), (1, .ref (X j1))]) hx hb dX7_is_38 rfl hl (by decide) rfl (fun ls hl => ?_)
        obtain ⟨v13, hg, hf⟩ := bq_b1s hf
        refine wk_tw_is_L39 C hstr hj1 _ _ _ _ _ _ hg hP hD hS ls (lv_sub hl [2, 3, 1, 0] rfl) ?_
        · intro H locs hP hD hS ls hl
          refine lv_iload_n hx hb dX7_is_82 rfl (lv_at hl 0 rfl) ?_
          obtain ⟨h14, hf⟩ := bq_bbs hf
          obtain rfl := Option.some.inj hf
          exact bq_zret C hr h14 hP hD hS dX7_is_83
set_option maxHeartbeats 4000000 in
theorem wk_tw_which_L2 {p : Program} {e : Env} {R : Room} {s : State} {m : MethodId} {args : Array Value} {below : List Frame} {meth : Method} {c : Code} {A : Nat → Prop} {Q : State → Prop} {l : Launch} {D : va_G} {am : bqAm} {d : Nat → ClassId} {a X : Nat → Nat} {F : Nat} {q1 : Nat} (C : bq_C p R s m args meth c A D bqCl (bqTy d) am cX7_which 3 RX7 6 244) (hstr : bq_Str am X)  {σ : bqS} :
    ∀ (k : Nat) (x2 : Int32) (tg : Nat) (y2 : Int32) (H : Heap) (locs : List Loc), tw_which_L2 F q1 σ k x2 = some (tg, y2) → va_P D bqCl (tW d a X σ) H → va_D A (tW d a X σ) → va_S A s.heap H locs → ∀ ls : Array Slot, lv_has ls 3 [(0, .ref (a 0)), (1, .ref (a q1)), (2, .int x2)] →
      (tg = 0 → ∀ (H : Heap) (locs : List Loc), va_P D bqCl (tW d a X σ) H → va_D A (tW d a X σ) → va_S A s.heap H locs → ∀ ls : Array Slot, lv_has ls 3 [(2, .int y2)] → W p l e R s m args below meth c H locs 0 0 Q (F0 m 18 ls [])) →
      (tg = 1 → ∀ (H : Heap) (locs : List Loc), va_P D bqCl (tW d a X σ) H → va_D A (tW d a X σ) → va_S A s.heap H locs → ∀ ls : Array Slot, lv_has ls 3 [] → W p l e R s m args below meth c H locs 0 0 Q (F0 m 26 ls [])) →
      W p l e R s m args below meth c H locs 0 0 Q (F0 m 2 ls []) := by
  have C0 := C
  obtain ⟨hx, hb, hown, hts, hml, hlocks, hA, hK, hm, hRf, hRl, hok⟩ := C
  have C := C0
  intro k
  induction k with
  | zero => intro x2 tg y2 H locs hf
            cases hf
  | succ k ih =>
    intro x2 tg y2 H locs hf hP hD hS ls hl hk0 hk1
    rw [tw_which_L2] at hf
    refine lv_iload_n hx hb dX7_which_2 rfl (lv_at hl 2 rfl) ?_
    refine lv_aload_n hx hb dX7_which_3 rfl (lv_at hl 1 rfl) ?_
    obtain ⟨h1, hf⟩ := bq_q3s hf
    refine bq_alenS hx hb hK hP h1 dX7_which_4 ?_
    refine lv_icmp_ge (tgt := 26) hx hb dX7_which_5 (by decide) (fun c2 => ?_) (fun c2 => ?_)
    · have hf := bq_ip c2 hf
      obtain ⟨rfl, rfl⟩ := bq_p2 hf
      exact hk1 rfl _ _ hP hD hS ls (lv_sub hl [] rfl)
    · have hf := bq_in c2 hf
      refine lv_aload_n hx hb dX7_which_8 rfl (lv_at hl 0 rfl) ?_
      refine lv_aload_n hx hb dX7_which_9 rfl (lv_at hl 1 rfl) ?_
      refine lv_iload_n hx hb dX7_which_10 rfl (lv_at hl 2 rfl) ?_
      obtain ⟨h3, hf⟩ := bq_q3s hf
      obtain ⟨h4, hf⟩ := bq_cks hf
      refine bq_aaldS hx hb hK hP h3 h4 dX7_which_11 ?_
      obtain ⟨v5, hg, hf⟩ := bq_b1s hf
      refine bq_callVi (As := [.ref (X (bqSA q1 x2.toNatClampNeg))]) (rest := []) C (met_tw_is hok hstr (bqSA_lt _ _) hg) (lw_V q1927 q1929 qs55 q140 q1930) (hd_X7_is) (Nat.le_of_ble_eq_true rfl) (Nat.le_of_ble_eq_true rfl) (va_recv hK hP (ci := 0) (q0 := 0) rfl rfl) rfl hl.1 rfl (Nat.le_of_ble_eq_true rfl) dX7_which_12 hP hD hS (fun H locs hP hD hS => ?_)
      refine lv_if_eq (tgt := 20) hx hb dX7_which_15 (by decide) (fun c6 => ?_) (fun c6 => ?_)
      · have hf := bq_ip c6 hf
        obtain ⟨v7, ev7, hf⟩ := bq_lts hf
        refine lv_iinc (v := v7) (lv' := [(2, .int v7), (0, .ref (a 0)), (1, .ref (a q1))]) hx hb dX7_which_20 hl (k := 2) rfl (bq_inc (by decide) ev7) (by decide) rfl (fun ls hl => ?_)
        refine lv_goto (tgt := 2) hx hb dX7_which_23 (by decide) ?_
        exact ih _ _ _ _ _ hf hP hD hS ls (lv_sub hl [1, 2, 0] rfl) hk0 hk1
      · have hf := bq_in c6 hf
        obtain ⟨rfl, rfl⟩ := bq_p2 hf
        exact hk0 rfl _ _ hP hD hS ls (lv_sub hl [2] rfl)
set_option maxHeartbeats 4000000 in
theorem met_tw_which {l : Launch} {D : va_G} {am : bqAm} {d : Nat → ClassId} {a X : Nat → Nat} {F : Nat} {σ : bqS} {r : Int32} {q1 : Nat} (hok : bq_Ok am) (hstr : bq_Str am X) (hf : tw_which F σ q1 = some r) : bq_M l yX7_which cX7_which 3 (some .int) 6 244 D bqCl (bqTy d) am [.ref (a 0), .ref (a q1)] (tW d a X σ) (some (.int r)) (tW d a X σ) := by
  unfold tw_which at hf
  refine bq_of hok (by decide +kernel) (Nat.le_of_ble_eq_true rfl) ?_
  intro p e s m below meth c A ls C hr hP hD hS hl
  have C0 := C
  obtain ⟨hx, hb, hown, hts, hml, hlocks, hA, hK, hm, hRf, hRl, hok⟩ := C
  have C := C0
  have hl : lv_has ls 3 [(0, .ref (a 0)), (1, .ref (a q1))] := hl
  refine lv_iconst (v := (0 : Int32)) hx hb dX7_which_0 (by decide) ?_
  refine lv_istore_n (lv' := [(2, .int (0 : Int32)), (0, .ref (a 0)), (1, .ref (a q1))]) hx hb dX7_which_1 rfl hl (by decide) rfl (fun ls hl => ?_)
  obtain ⟨t8, v9, hg, hf⟩ := bq_b2s hf
  refine wk_tw_which_L2 C hstr _ _ _ _ _ _ hg hP hD hS ls (lv_sub hl [1, 2, 0] rfl) ?_ ?_
  · intro ht_
    intro H locs hP hD hS ls hl
    have hf := bq_ip ht_ hf
    refine lv_iload_n hx hb dX7_which_18 rfl (lv_at hl 0 rfl) ?_
    obtain rfl := Option.some.inj hf
    exact bq_iret C hr hP hD hS dX7_which_19
  · intro ht_
    intro H locs hP hD hS ls hl
    have hf := bq_in (by rw [ht_]; decide) hf
    refine lv_iconst (v := (-1 : Int32)) hx hb dX7_which_26 (by decide) ?_
    obtain rfl := Option.some.inj hf
    exact bq_iret C hr hP hD hS dX7_which_27
set_option maxHeartbeats 4000000 in
theorem met_tw_wrong {l : Launch} {D : va_G} {am : bqAm} {d : Nat → ClassId} {a X : Nat → Nat} {σ : bqS} {σ' : bqS} {x1 : Int32} (hok : bq_Ok am) (hf : tw_wrong σ x1 = some σ') : bq_M l yX7_wrong cX7_wrong 2 none 0 0 D bqCl (bqTy d) am [.ref (a 0), .int x1] (tW d a X σ) none (tW d a X σ') := by
  unfold tw_wrong at hf
  refine bq_of hok (by decide +kernel) (Nat.le_of_ble_eq_true rfl) ?_
  intro p e s m below meth c A ls C hr hP hD hS hl
  have C0 := C
  obtain ⟨hx, hb, hown, hts, hml, hlocks, hA, hK, hm, hRf, hRl, hok⟩ := C
  have C := C0
  have hl : lv_has ls 2 [(0, .ref (a 0)), (1, .int x1)] := hl
  refine lv_aload_n hx hb dX7_wrong_0 rfl (lv_at hl 0 rfl) ?_
  refine tw_get (v := .int (σ 0 22)) hx hb hts hown hK hP 22 (Nat.le_of_ble_eq_true rfl) (hts _ q1713) rfl dX7_wrong_1 ?_
  refine lv_if_eq (tgt := 8) hx hb dX7_wrong_4 (by decide) (fun c1 => ?_) (fun c1 => ?_)
  · have hf := bq_ip c1 hf
    refine lv_aload_n hx hb dX7_wrong_8 rfl (lv_at hl 0 rfl) ?_
    refine lv_iload_n hx hb dX7_wrong_9 rfl (lv_at hl 1 rfl) ?_
    obtain ⟨σ2, eσ2, hf⟩ := bq_lts hf
    refine tw_put (ty := .int) (z := x1) hx hb hts hown hK hP hD hS 22 (Nat.le_of_ble_eq_true rfl) (hts _ q1713) rfl rfl rfl rfl rfl dX7_wrong_10 (fun H locs hP hD hS => ?_)
    rw [← eσ2] at hP hD
    refine lv_aload_n hx hb dX7_wrong_13 rfl (lv_at hl 0 rfl) ?_
    refine lv_aload_n hx hb dX7_wrong_14 rfl (lv_at hl 0 rfl) ?_
    refine tw_get (v := .int (σ2 0 20)) hx hb hts hown hK hP 20 (Nat.le_of_ble_eq_true rfl) (hts _ q1711) rfl dX7_wrong_15 ?_
    obtain ⟨σ3, eσ3, hf⟩ := bq_lts hf
    refine tw_put (ty := .int) (z := σ2 0 20) hx hb hts hown hK hP hD hS 23 (Nat.le_of_ble_eq_true rfl) (hts _ q1714) rfl rfl rfl rfl rfl dX7_wrong_18 (fun H locs hP hD hS => ?_)
    rw [← eσ3] at hP hD
    obtain rfl := Option.some.inj hf
    exact bq_vret C hr hP hD hS dX7_wrong_21
  · have hf := bq_in c1 hf
    obtain rfl := Option.some.inj hf
    exact bq_vret C hr hP hD hS dX7_wrong_7
set_option maxHeartbeats 4000000 in
theorem wk_tw_numberNow_J54 {p : Program} {e : Env} {R : Room} {s : State} {m : MethodId} {args : Array Value} {below : List Frame} {meth : Method} {c : Code} {A : Nat → Prop} {l : Launch} {D : va_G} {am : bqAm} {d : Nat → ClassId} {a X : Nat → Nat} (C : bq_C p R s m args meth c A D bqCl (bqTy d) am cX7_numberNow 3 RX7 1 21)  (hr : meth.sig.returnType = (some .int)) (σ : bqS) (r : Int32) (σ' : bqS) (H : Heap) (locs : List Loc) :
      tw_numberNow_J54 σ = some (r, σ') → va_P D bqCl (tW d a X σ) H → va_D A (tW d a X σ) → va_S A s.heap H locs → ∀ ls : Array Slot, lv_has ls 3 [(0, .ref (a 0))] →
      W p l e R s m args below meth c H locs 0 0 (MQ below (bq_Q D bqCl (some (.int r)) (tW d a X σ') A) args s 0 0 A) (F0 m 54 ls []) := by
  have C0 := C
  obtain ⟨hx, hb, hown, hts, hml, hlocks, hA, hK, hm, hRf, hRl, hok⟩ := C
  have C := C0
  intro hf hP hD hS ls hl 
  unfold tw_numberNow_J54 at hf
  refine lv_aload_n hx hb dX7_numberNow_54 rfl (lv_at hl 0 rfl) ?_
  refine lv_iconst (v := (2 : Int32)) hx hb dX7_numberNow_55 (by decide) ?_
  obtain ⟨σ4, hg, hf⟩ := bq_b1s hf
  refine bq_callVv (As := [.int (2 : Int32)]) (rest := []) C (met_tw_wrong hok  hg) (lw_V q1939 q1941 qs56 q140 q1942) (hd_X7_wrong) (Nat.le_of_ble_eq_true rfl) (Nat.le_of_ble_eq_true rfl) (va_recv hK hP (ci := 0) (q0 := 0) rfl rfl) rfl hl.1 rfl (Nat.le_of_ble_eq_true rfl) dX7_numberNow_56 hP hD hS (fun H locs hP hD hS => ?_)
  refine lv_aload_n hx hb dX7_numberNow_59 rfl (lv_at hl 0 rfl) ?_
  refine tw_get (v := .int (σ4 0 22)) hx hb hts hown hK hP 22 (Nat.le_of_ble_eq_true rfl) (hts _ q1713) rfl dX7_numberNow_60 ?_
  refine lv_if_ne (tgt := 73) hx hb dX7_numberNow_63 (by decide) (fun c5 => ?_) (fun c5 => ?_)
  · have hf := bq_in c5 hf
    refine lv_iconst (v := (0 : Int32)) hx hb dX7_numberNow_73 (by decide) ?_
    obtain ⟨rfl, rfl⟩ := bq_p2 hf
    exact bq_iret C hr hP hD hS dX7_numberNow_74
  · have hf := bq_ip c5 hf
    refine lv_aload_n hx hb dX7_numberNow_66 rfl (lv_at hl 0 rfl) ?_
    refine tw_get (v := .int (σ4 0 19)) hx hb hts hown hK hP 19 (Nat.le_of_ble_eq_true rfl) (hts _ q1710) rfl dX7_numberNow_67 ?_
    refine lv_goto (tgt := 74) hx hb dX7_numberNow_70 (by decide) ?_
    obtain ⟨rfl, rfl⟩ := bq_p2 hf
    exact bq_iret C hr hP hD hS dX7_numberNow_74
set_option maxHeartbeats 4000000 in
theorem met_tw_numberNow {l : Launch} {D : va_G} {am : bqAm} {d : Nat → ClassId} {a X : Nat → Nat} {σ : bqS} {σ' : bqS} {r : Int32} {x1 : Int32} {x2 : Int32} (hok : bq_Ok am) (hf : tw_numberNow σ x1 x2 = some (r, σ')) : bq_M l yX7_numberNow cX7_numberNow 3 (some .int) 1 21 D bqCl (bqTy d) am [.ref (a 0), .int x1, .int x2] (tW d a X σ) (some (.int r)) (tW d a X σ') := by
  unfold tw_numberNow at hf
  refine bq_of hok (by decide +kernel) (Nat.le_of_ble_eq_true rfl) ?_
  intro p e s m below meth c A ls C hr hP hD hS hl
  have C0 := C
  obtain ⟨hx, hb, hown, hts, hml, hlocks, hA, hK, hm, hRf, hRl, hok⟩ := C
  have C := C0
  have hl : lv_has ls 3 [(0, .ref (a 0)), (1, .int x1), (2, .int x2)] := hl
  refine lv_aload_n hx hb dX7_numberNow_0 rfl (lv_at hl 0 rfl) ?_
  refine tw_get (v := .int (σ 0 22)) hx hb hts hown hK hP 22 (Nat.le_of_ble_eq_true rfl) (hts _ q1713) rfl dX7_numberNow_1 ?_
  refine lv_if_eq (tgt := 9) hx hb dX7_numberNow_4 (by decide) (fun c1 => ?_) (fun c1 => ?_)
  · have hf := bq_ip c1 hf
    refine lv_aload_n hx hb dX7_numberNow_9 rfl (lv_at hl 0 rfl) ?_
    refine tw_get (v := .int (σ 0 18)) hx hb hts hown hK hP 18 (Nat.le_of_ble_eq_true rfl) (hts _ q1709) rfl dX7_numberNow_10 ?_
    refine lv_iconst (v := (2 : Int32)) hx hb dX7_numberNow_13 (by decide) ?_
    refine lv_icmp_eq (tgt := 25) hx hb dX7_numberNow_14 (by decide) (fun c2 => ?_) (fun c2 => ?_)
    · have hf := bq_ip c2 hf
      refine lv_aload_n hx hb dX7_numberNow_25 rfl (lv_at hl 0 rfl) ?_
      refine tw_get (v := .int (σ 0 21)) hx hb hts hown hK hP 21 (Nat.le_of_ble_eq_true rfl) (hts _ q1712) rfl dX7_numberNow_26 ?_
      refine lv_aload_n hx hb dX7_numberNow_29 rfl (lv_at hl 0 rfl) ?_
      refine tw_get (v := .int (σ 0 20)) hx hb hts hown hK hP 20 (Nat.le_of_ble_eq_true rfl) (hts _ q1711) rfl dX7_numberNow_30 ?_
      refine lv_isub hx hb dX7_numberNow_33 ?_
      refine lv_iconst (v := (4 : Int32)) hx hb dX7_numberNow_34 (by decide) ?_
      refine lv_icmp_gt (tgt := 54) hx hb dX7_numberNow_35 (by decide) (fun c3 => ?_) (fun c3 => ?_)
      · have hf := bq_ip c3 hf
        exact wk_tw_numberNow_J54 C hr _ _ _ _ _ hf hP hD hS ls (lv_sub hl [0] rfl)
      · have hf := bq_in c3 hf
        refine lv_aload_n hx hb dX7_numberNow_38 rfl (lv_at hl 0 rfl) ?_
        refine tw_get (v := .int (σ 0 19)) hx hb hts hown hK hP 19 (Nat.le_of_ble_eq_true rfl) (hts _ q1710) rfl dX7_numberNow_39 ?_
        refine lv_iload_n hx hb dX7_numberNow_42 rfl (lv_at hl 1 rfl) ?_
        refine lv_icmp_lt (tgt := 54) hx hb dX7_numberNow_43 (by decide) (fun c6 => ?_) (fun c6 => ?_)
        · have hf := bq_ip c6 hf
          exact wk_tw_numberNow_J54 C hr _ _ _ _ _ hf hP hD hS ls (lv_sub hl [0] rfl)
        · have hf := bq_in c6 hf
          refine lv_aload_n hx hb dX7_numberNow_46 rfl (lv_at hl 0 rfl) ?_
          refine tw_get (v := .int (σ 0 19)) hx hb hts hown hK hP 19 (Nat.le_of_ble_eq_true rfl) (hts _ q1710) rfl dX7_numberNow_47 ?_
          refine lv_iload_n hx hb dX7_numberNow_50 rfl (lv_at hl 2 rfl) ?_
          refine lv_icmp_le (tgt := 59) hx hb dX7_numberNow_51 (by decide) (fun c7 => ?_) (fun c7 => ?_)
          · have hf := bq_ip c7 hf
            refine lv_aload_n hx hb dX7_numberNow_59 rfl (lv_at hl 0 rfl) ?_
            refine tw_get (v := .int (σ 0 22)) hx hb hts hown hK hP 22 (Nat.le_of_ble_eq_true rfl) (hts _ q1713) rfl dX7_numberNow_60 ?_
            refine lv_if_ne (tgt := 73) hx hb dX7_numberNow_63 (by decide) (fun c8 => ?_) (fun c8 => ?_)
            · have hf := bq_in c8 hf
              refine lv_iconst (v := (0 : Int32)) hx hb dX7_numberNow_73 (by decide) ?_
              obtain ⟨rfl, rfl⟩ := bq_p2 hf
              exact bq_iret C hr hP hD hS dX7_numberNow_74
            · have hf := bq_ip c8 hf
              refine lv_aload_n hx hb dX7_numberNow_66 rfl (lv_at hl 0 rfl) ?_
              refine tw_get (v := .int (σ 0 19)) hx hb hts hown hK hP 19 (Nat.le_of_ble_eq_true rfl) (hts _ q1710) rfl dX7_numberNow_67 ?_
              refine lv_goto (tgt := 74) hx hb dX7_numberNow_70 (by decide) ?_
              obtain ⟨rfl, rfl⟩ := bq_p2 hf
              exact bq_iret C hr hP hD hS dX7_numberNow_74
          · have hf := bq_in c7 hf
            exact wk_tw_numberNow_J54 C hr _ _ _ _ _ hf hP hD hS ls (lv_sub hl [0] rfl)
    · have hf := bq_in c2 hf
      refine lv_aload_n hx hb dX7_numberNow_17 rfl (lv_at hl 0 rfl) ?_
      refine lv_iconst (v := (1 : Int32)) hx hb dX7_numberNow_18 (by decide) ?_
      obtain ⟨σ9, hg, hf⟩ := bq_b1s hf
      refine bq_callVv (As := [.int (1 : Int32)]) (rest := []) C (met_tw_wrong hok  hg) (lw_V q1939 q1941 qs56 q140 q1942) (hd_X7_wrong) (Nat.le_of_ble_eq_true rfl) (Nat.le_of_ble_eq_true rfl) (va_recv hK hP (ci := 0) (q0 := 0) rfl rfl) rfl hl.1 rfl (Nat.le_of_ble_eq_true rfl) dX7_numberNow_19 hP hD hS (fun H locs hP hD hS => ?_)
      refine lv_goto (tgt := 59) hx hb dX7_numberNow_22 (by decide) ?_
      refine lv_aload_n hx hb dX7_numberNow_59 rfl (lv_at hl 0 rfl) ?_
      refine tw_get (v := .int (σ9 0 22)) hx hb hts hown hK hP 22 (Nat.le_of_ble_eq_true rfl) (hts _ q1713) rfl dX7_numberNow_60 ?_
      refine lv_if_ne (tgt := 73) hx hb dX7_numberNow_63 (by decide) (fun c10 => ?_) (fun c10 => ?_)
      · have hf := bq_in c10 hf
        refine lv_iconst (v := (0 : Int32)) hx hb dX7_numberNow_73 (by decide) ?_
        obtain ⟨rfl, rfl⟩ := bq_p2 hf
        exact bq_iret C hr hP hD hS dX7_numberNow_74
      · have hf := bq_ip c10 hf
        refine lv_aload_n hx hb dX7_numberNow_66 rfl (lv_at hl 0 rfl) ?_
        refine tw_get (v := .int (σ9 0 19)) hx hb hts hown hK hP 19 (Nat.le_of_ble_eq_true rfl) (hts _ q1710) rfl dX7_numberNow_67 ?_
        refine lv_goto (tgt := 74) hx hb dX7_numberNow_70 (by decide) ?_
        obtain ⟨rfl, rfl⟩ := bq_p2 hf
        exact bq_iret C hr hP hD hS dX7_numberNow_74
  · have hf := bq_in c1 hf
    refine lv_iconst (v := (0 : Int32)) hx hb dX7_numberNow_7 (by decide) ?_
    obtain ⟨rfl, rfl⟩ := bq_p2 hf
    exact bq_iret C hr hP hD hS dX7_numberNow_8
set_option maxHeartbeats 4000000 in
theorem met_tw_readNumber {l : Launch} {D : va_G} {am : bqAm} {d : Nat → ClassId} {a X : Nat → Nat} {F : Nat} {σ : bqS} {σ' : bqS} {r : Int32} {x1 : Int32} {x2 : Int32} (hok : bq_Ok am) (hf : tw_readNumber F σ x1 x2 = some (r, σ')) : bq_M l yX7_readNumber cX7_readNumber 4 (some .int) 2 43 D bqCl (bqTy d) am [.ref (a 0), .int x1, .int x2] (tW d a X σ) (some (.int r)) (tW d a X σ') := by
  unfold tw_readNumber at hf
  refine bq_of hok (by decide +kernel) (Nat.le_of_ble_eq_true rfl) ?_
  intro p e s m below meth c A ls C hr hP hD hS hl
  have C0 := C
  obtain ⟨hx, hb, hown, hts, hml, hlocks, hA, hK, hm, hRf, hRl, hok⟩ := C
  have C := C0
  have hl : lv_has ls 4 [(0, .ref (a 0)), (1, .int x1), (2, .int x2)] := hl
  refine lv_aload_n hx hb dX7_readNumber_0 rfl (lv_at hl 0 rfl) ?_
  refine lv_iload_n hx hb dX7_readNumber_1 rfl (lv_at hl 1 rfl) ?_
  refine lv_iload_n hx hb dX7_readNumber_2 rfl (lv_at hl 2 rfl) ?_
  obtain ⟨v1, σ2, hg, hf⟩ := bq_b2s hf
  refine bq_callVi (As := [.int x1, .int x2]) (rest := []) C (met_tw_numberNow hok  hg) (lw_V q1955 q1957 qs60 q140 q1958) (hd_X7_numberNow) (Nat.le_of_ble_eq_true rfl) (Nat.le_of_ble_eq_true rfl) (va_recv hK hP (ci := 0) (q0 := 0) rfl rfl) rfl hl.1 rfl (Nat.le_of_ble_eq_true rfl) dX7_readNumber_3 hP hD hS (fun H locs hP hD hS => ?_)
  refine lv_istore_n (lv' := [(3, .int v1), (0, .ref (a 0)), (1, .int x1), (2, .int x2)]) hx hb dX7_readNumber_6 rfl hl (by decide) rfl (fun ls hl => ?_)
  refine lv_aload_n hx hb dX7_readNumber_7 rfl (lv_at hl 1 rfl) ?_
  refine tw_get (v := .int (σ2 0 22)) hx hb hts hown hK hP 22 (Nat.le_of_ble_eq_true rfl) (hts _ q1713) rfl dX7_readNumber_8 ?_
  refine lv_if_ne (tgt := 18) hx hb dX7_readNumber_11 (by decide) (fun c3 => ?_) (fun c3 => ?_)
  · have hf := bq_in c3 hf
    refine lv_iload_n hx hb dX7_readNumber_18 rfl (lv_at hl 0 rfl) ?_
    obtain ⟨rfl, rfl⟩ := bq_p2 hf
    exact bq_iret C hr hP hD hS dX7_readNumber_19
  · have hf := bq_ip c3 hf
    refine lv_aload_n hx hb dX7_readNumber_14 rfl (lv_at hl 1 rfl) ?_
    obtain ⟨σ4, hg, hf⟩ := bq_b1s hf
    refine bq_callVv (As := []) (rest := []) C (met_tw_stepOn hok  hg) (lw_V q1900 q1902 qs51 q140 q1903) (hd_X7_stepOn) (Nat.le_of_ble_eq_true rfl) (Nat.le_of_ble_eq_true rfl) (va_recv hK hP (ci := 0) (q0 := 0) rfl rfl) rfl hl.1 rfl (Nat.le_of_ble_eq_true rfl) dX7_readNumber_15 hP hD hS (fun H locs hP hD hS => ?_)
    refine lv_iload_n hx hb dX7_readNumber_18 rfl (lv_at hl 0 rfl) ?_
    obtain ⟨rfl, rfl⟩ := bq_p2 hf
    exact bq_iret C hr hP hD hS dX7_readNumber_19
set_option maxHeartbeats 4000000 in
theorem met_tw_saySky {l : Launch} {D : va_G} {am : bqAm} {d : Nat → ClassId} {a X : Nat → Nat} {F : Nat} {σ : bqS} {σ' : bqS} (hok : bq_Ok am) (hf : tw_saySky F σ = some σ') : bq_M l yX7_saySky cX7_saySky 1 none 3 66 D bqCl (bqTy d) am [.ref (a 0)] (tW d a X σ) none (tW d a X σ') := by
  unfold tw_saySky at hf
  refine bq_of hok (by decide +kernel) (Nat.le_of_ble_eq_true rfl) ?_
  intro p e s m below meth c A ls C hr hP hD hS hl
  have C0 := C
  obtain ⟨hx, hb, hown, hts, hml, hlocks, hA, hK, hm, hRf, hRl, hok⟩ := C
  have C := C0
  have hl : lv_has ls 1 [(0, .ref (a 0))] := hl
  refine lv_aload_n hx hb dX7_saySky_0 rfl (lv_at hl 0 rfl) ?_
  obtain ⟨σ1, hg, hf⟩ := bq_b1s hf
  refine bq_callVv (As := []) (rest := []) C (met_tw_stepOn hok  hg) (lw_V q1900 q1902 qs51 q140 q1903) (hd_X7_stepOn) (Nat.le_of_ble_eq_true rfl) (Nat.le_of_ble_eq_true rfl) (va_recv hK hP (ci := 0) (q0 := 0) rfl rfl) rfl hl.1 rfl (Nat.le_of_ble_eq_true rfl) dX7_saySky_1 hP hD hS (fun H locs hP hD hS => ?_)
  refine lv_aload_n hx hb dX7_saySky_4 rfl (lv_at hl 0 rfl) ?_
  refine tw_get (v := .ref (a 4)) hx hb hts hown hK hP 5 (Nat.le_of_ble_eq_true rfl) (hts _ q1696) rfl dX7_saySky_5 ?_
  refine lv_bipush (v := (9 : Int32)) hx hb dX7_saySky_8 (by decide) ?_
  refine lv_aload_n hx hb dX7_saySky_10 rfl (lv_at hl 0 rfl) ?_
  refine lv_iconst (v := (1 : Int32)) hx hb dX7_saySky_11 (by decide) ?_
  refine lv_bipush (v := (6 : Int32)) hx hb dX7_saySky_12 (by decide) ?_
  obtain ⟨v2, σ3, hg, hf⟩ := bq_b2s hf
  refine bq_callVi (As := [.int (1 : Int32), .int (6 : Int32)]) (rest := [.int (9 : Int32), .ref (a 4)]) C (met_tw_readNumber hok  hg) (lw_V q1951 q1953 qs59 q140 q1954) (hd_X7_readNumber) (Nat.le_of_ble_eq_true rfl) (Nat.le_of_ble_eq_true rfl) (va_recv hK hP (ci := 0) (q0 := 0) rfl rfl) rfl hl.1 rfl (Nat.le_of_ble_eq_true rfl) dX7_saySky_14 hP hD hS (fun H locs hP hD hS => ?_)
  obtain ⟨σ4, eσ4, hf⟩ := bq_lts hf
  refine bq_iast hx hb hK hP hD hS tA4 rfl (by unfold vp_in; decide) (j := 9) (by decide) dX7_saySky_17 (fun H locs hP hD hS => ?_)
  rw [← eσ4] at hP hD
  refine lv_aload_n hx hb dX7_saySky_18 rfl (lv_at hl 0 rfl) ?_
  refine tw_get (v := .ref (a 4)) hx hb hts hown hK hP 5 (Nat.le_of_ble_eq_true rfl) (hts _ q1696) rfl dX7_saySky_19 ?_
  refine lv_bipush (v := (10 : Int32)) hx hb dX7_saySky_22 (by decide) ?_
  refine lv_aload_n hx hb dX7_saySky_24 rfl (lv_at hl 0 rfl) ?_
  refine lv_iconst (v := (1 : Int32)) hx hb dX7_saySky_25 (by decide) ?_
  refine lv_iconst (v := (5 : Int32)) hx hb dX7_saySky_26 (by decide) ?_
  obtain ⟨v5, σ6, hg, hf⟩ := bq_b2s hf
  refine bq_callVi (As := [.int (1 : Int32), .int (5 : Int32)]) (rest := [.int (10 : Int32), .ref (a 4)]) C (met_tw_readNumber hok  hg) (lw_V q1951 q1953 qs59 q140 q1954) (hd_X7_readNumber) (Nat.le_of_ble_eq_true rfl) (Nat.le_of_ble_eq_true rfl) (va_recv hK hP (ci := 0) (q0 := 0) rfl rfl) rfl hl.1 rfl (Nat.le_of_ble_eq_true rfl) dX7_saySky_27 hP hD hS (fun H locs hP hD hS => ?_)
  obtain ⟨σ7, eσ7, hf⟩ := bq_lts hf
  refine bq_iast hx hb hK hP hD hS tA4 rfl (by unfold vp_in; decide) (j := 10) (by decide) dX7_saySky_30 (fun H locs hP hD hS => ?_)
  rw [← eσ7] at hP hD
  obtain rfl := Option.some.inj hf
  exact bq_vret C hr hP hD hS dX7_saySky_31
set_option maxHeartbeats 4000000 in
theorem met_tw_isMarked {l : Launch} {D : va_G} {am : bqAm} {d : Nat → ClassId} {a X : Nat → Nat} {σ : bqS} {r : Int32} {x1 : Int32} (hok : bq_Ok am) (hf : tw_isMarked σ x1 = some r) : bq_M l yX7_isMarked cX7_isMarked 2 (some .boolean) 0 0 D bqCl (bqTy d) am [.ref (a 0), .int x1] (tW d a X σ) (some (.int r)) (tW d a X σ) := by
  unfold tw_isMarked at hf
  refine bq_of hok (by decide +kernel) (Nat.le_of_ble_eq_true rfl) ?_
  intro p e s m below meth c A ls C hr hP hD hS hl
  have C0 := C
  obtain ⟨hx, hb, hown, hts, hml, hlocks, hA, hK, hm, hRf, hRl, hok⟩ := C
  have C := C0
  have hl : lv_has ls 2 [(0, .ref (a 0)), (1, .int x1)] := hl
  refine lv_aload_n hx hb dX7_isMarked_0 rfl (lv_at hl 0 rfl) ?_
  refine tw_get (v := .int (σ 0 22)) hx hb hts hown hK hP 22 (Nat.le_of_ble_eq_true rfl) (hts _ q1713) rfl dX7_isMarked_1 ?_
  refine lv_if_ne (tgt := 32) hx hb dX7_isMarked_4 (by decide) (fun c1 => ?_) (fun c1 => ?_)
  · have hf := bq_in c1 hf
    refine lv_iconst (v := (0 : Int32)) hx hb dX7_isMarked_32 (by decide) ?_
    obtain rfl := Option.some.inj hf
    exact bq_zret C hr (by decide) hP hD hS dX7_isMarked_33
  · have hf := bq_ip c1 hf
    refine lv_aload_n hx hb dX7_isMarked_7 rfl (lv_at hl 0 rfl) ?_
    refine tw_get (v := .int (σ 0 18)) hx hb hts hown hK hP 18 (Nat.le_of_ble_eq_true rfl) (hts _ q1709) rfl dX7_isMarked_8 ?_
    refine lv_iconst (v := (3 : Int32)) hx hb dX7_isMarked_11 (by decide) ?_
    refine lv_icmp_ne (tgt := 32) hx hb dX7_isMarked_12 (by decide) (fun c2 => ?_) (fun c2 => ?_)
    · have hf := bq_in c2 hf
      refine lv_iconst (v := (0 : Int32)) hx hb dX7_isMarked_32 (by decide) ?_
      obtain rfl := Option.some.inj hf
      exact bq_zret C hr (by decide) hP hD hS dX7_isMarked_33
    · have hf := bq_ip c2 hf
      refine lv_aload_n hx hb dX7_isMarked_15 rfl (lv_at hl 0 rfl) ?_
      refine tw_get (v := .ref (a 13)) hx hb hts hown hK hP 14 (Nat.le_of_ble_eq_true rfl) (hts _ q1705) rfl dX7_isMarked_16 ?_
      refine lv_aload_n hx hb dX7_isMarked_19 rfl (lv_at hl 0 rfl) ?_
      refine tw_get (v := .int (σ 0 20)) hx hb hts hown hK hP 20 (Nat.le_of_ble_eq_true rfl) (hts _ q1711) rfl dX7_isMarked_20 ?_
      obtain ⟨h3, hf⟩ := bq_cks hf
      refine bq_iald hx hb hK hP tA13 rfl h3 (j := (σ 0 20).toNatClampNeg) rfl dX7_isMarked_23 ?_
      refine lv_iload_n hx hb dX7_isMarked_24 rfl (lv_at hl 1 rfl) ?_
      refine lv_icmp_ne (tgt := 32) hx hb dX7_isMarked_25 (by decide) (fun c4 => ?_) (fun c4 => ?_)
      · have hf := bq_in c4 hf
        refine lv_iconst (v := (0 : Int32)) hx hb dX7_isMarked_32 (by decide) ?_
        obtain rfl := Option.some.inj hf
        exact bq_zret C hr (by decide) hP hD hS dX7_isMarked_33
      · have hf := bq_ip c4 hf
        refine lv_iconst (v := (1 : Int32)) hx hb dX7_isMarked_28 (by decide) ?_
        refine lv_goto (tgt := 33) hx hb dX7_isMarked_29 (by decide) ?_
        obtain rfl := Option.some.inj hf
        exact bq_zret C hr (by decide) hP hD hS dX7_isMarked_33
set_option maxHeartbeats 4000000 in
theorem met_tw_lay {l : Launch} {D : va_G} {am : bqAm} {d : Nat → ClassId} {a X : Nat → Nat} {σ : bqS} {σ' : bqS} {x1 : Int32} (hok : bq_Ok am) (hf : tw_lay σ x1 = some σ') : bq_M l yX7_lay cX7_lay 4 none 0 0 D bqCl (bqTy d) am [.ref (a 0), .int x1] (tW d a X σ) none (tW d a X σ') := by
  unfold tw_lay at hf
  refine bq_of hok (by decide +kernel) (Nat.le_of_ble_eq_true rfl) ?_
  intro p e s m below meth c A ls C hr hP hD hS hl
  have C0 := C
  obtain ⟨hx, hb, hown, hts, hml, hlocks, hA, hK, hm, hRf, hRl, hok⟩ := C
  have C := C0
  have hl : lv_has ls 4 [(0, .ref (a 0)), (1, .int x1)] := hl
  refine lv_aload_n hx hb dX7_lay_0 rfl (lv_at hl 0 rfl) ?_
  refine tw_get (v := .int (σ 0 22)) hx hb hts hown hK hP 22 (Nat.le_of_ble_eq_true rfl) (hts _ q1713) rfl dX7_lay_1 ?_
  refine lv_if_eq (tgt := 8) hx hb dX7_lay_4 (by decide) (fun c1 => ?_) (fun c1 => ?_)
  · have hf := bq_ip c1 hf
    refine lv_bipush (v := (9 : Int32)) hx hb dX7_lay_8 (by decide) ?_
    refine lv_aload_n hx hb dX7_lay_10 rfl (lv_at hl 0 rfl) ?_
    refine tw_get (v := .int (σ 0 27)) hx hb hts hown hK hP 27 (Nat.le_of_ble_eq_true rfl) (hts _ q1718) rfl dX7_lay_11 ?_
    refine lv_if_eq (tgt := 22) hx hb dX7_lay_14 (by decide) (fun c2 => ?_) (fun c2 => ?_)
    · have hf := bq_ip c2 hf
      refine lv_bipush (v := (6 : Int32)) hx hb dX7_lay_22 (by decide) ?_
      refine lv_iadd hx hb dX7_lay_24 ?_
      obtain ⟨v3, ev3, hf⟩ := bq_lts hf
      refine bq_tope ev3 ?_
      refine lv_istore_n (lv' := [(2, .int v3), (0, .ref (a 0)), (1, .int x1)]) hx hb dX7_lay_25 rfl hl (by decide) rfl (fun ls hl => ?_)
      refine lv_aload_n hx hb dX7_lay_26 rfl (lv_at hl 1 rfl) ?_
      refine tw_get (v := .int (σ 0 27)) hx hb hts hown hK hP 27 (Nat.le_of_ble_eq_true rfl) (hts _ q1718) rfl dX7_lay_27 ?_
      refine lv_if_eq (tgt := 40) hx hb dX7_lay_30 (by decide) (fun c4 => ?_) (fun c4 => ?_)
      · have hf := bq_ip c4 hf
        refine lv_aload_n hx hb dX7_lay_40 rfl (lv_at hl 1 rfl) ?_
        refine tw_get (v := .ref (a 9)) hx hb hts hown hK hP 10 (Nat.le_of_ble_eq_true rfl) (hts _ q1701) rfl dX7_lay_41 ?_
        refine lv_astore_n (lv' := [(3, .ref (a 9)), (2, .int v3), (0, .ref (a 0)), (1, .int x1)]) hx hb dX7_lay_44 rfl hl (by decide) rfl (fun ls hl => ?_)
        refine lv_aload_n hx hb dX7_lay_45 rfl (lv_at hl 0 rfl) ?_
        refine lv_sipush (v := (700 : Int32)) hx hb dX7_lay_46 (by decide) ?_
        refine lv_aload_n hx hb dX7_lay_49 rfl (lv_at hl 2 rfl) ?_
        refine tw_get (v := .ref (a 4)) hx hb hts hown hK hP 5 (Nat.le_of_ble_eq_true rfl) (hts _ q1696) rfl dX7_lay_50 ?_
        refine lv_iload_n hx hb dX7_lay_53 rfl (lv_at hl 1 rfl) ?_
        obtain ⟨h5, hf⟩ := bq_cks hf
        refine bq_iald hx hb hK hP tA4 rfl h5 (j := v3.toNatClampNeg) rfl dX7_lay_54 ?_
        refine lv_iadd hx hb dX7_lay_55 ?_
        refine lv_iload_n hx hb dX7_lay_56 rfl (lv_at hl 3 rfl) ?_
        obtain ⟨h7, hf⟩ := bq_cks hf
        obtain ⟨σ6, eσ6, hf⟩ := bq_lts hf
        refine bq_iast hx hb hK hP hD hS tA9 rfl h7 (j := (((700 : Int32) + (σ 4 v3.toNatClampNeg)).toNatClampNeg)) rfl dX7_lay_57 (fun H locs hP hD hS => ?_)
        rw [← eσ6] at hP hD
        refine lv_aload_n hx hb dX7_lay_58 rfl (lv_at hl 2 rfl) ?_
        refine tw_get (v := .ref (a 4)) hx hb hts hown hK hP 5 (Nat.le_of_ble_eq_true rfl) (hts _ q1696) rfl dX7_lay_59 ?_
        refine lv_iload_n hx hb dX7_lay_62 rfl (lv_at hl 1 rfl) ?_
        refine lv_dup2_11 hx hb dX7_lay_63 rfl rfl ?_
        obtain ⟨h8, hf⟩ := bq_cks hf
        refine bq_iald hx hb hK hP tA4 rfl h8 (j := v3.toNatClampNeg) rfl dX7_lay_64 ?_
        refine lv_iconst (v := (1 : Int32)) hx hb dX7_lay_65 (by decide) ?_
        refine lv_iadd hx hb dX7_lay_66 ?_
        obtain ⟨h10, hf⟩ := bq_cks hf
        obtain ⟨σ9, eσ9, hf⟩ := bq_lts hf
        refine bq_iast hx hb hK hP hD hS tA4 rfl h10 (j := v3.toNatClampNeg) rfl dX7_lay_67 (fun H locs hP hD hS => ?_)
        rw [← eσ9] at hP hD
        obtain rfl := Option.some.inj hf
        exact bq_vret C hr hP hD hS dX7_lay_68
      · have hf := bq_in c4 hf
        refine lv_aload_n hx hb dX7_lay_33 rfl (lv_at hl 1 rfl) ?_
        refine tw_get (v := .ref (a 10)) hx hb hts hown hK hP 11 (Nat.le_of_ble_eq_true rfl) (hts _ q1702) rfl dX7_lay_34 ?_
        refine lv_goto (tgt := 44) hx hb dX7_lay_37 (by decide) ?_
        refine lv_astore_n (lv' := [(3, .ref (a 10)), (2, .int v3), (0, .ref (a 0)), (1, .int x1)]) hx hb dX7_lay_44 rfl hl (by decide) rfl (fun ls hl => ?_)
        refine lv_aload_n hx hb dX7_lay_45 rfl (lv_at hl 0 rfl) ?_
        refine lv_sipush (v := (700 : Int32)) hx hb dX7_lay_46 (by decide) ?_
        refine lv_aload_n hx hb dX7_lay_49 rfl (lv_at hl 2 rfl) ?_
        refine tw_get (v := .ref (a 4)) hx hb hts hown hK hP 5 (Nat.le_of_ble_eq_true rfl) (hts _ q1696) rfl dX7_lay_50 ?_
        refine lv_iload_n hx hb dX7_lay_53 rfl (lv_at hl 1 rfl) ?_
        obtain ⟨h11, hf⟩ := bq_cks hf
        refine bq_iald hx hb hK hP tA4 rfl h11 (j := v3.toNatClampNeg) rfl dX7_lay_54 ?_
        refine lv_iadd hx hb dX7_lay_55 ?_
        refine lv_iload_n hx hb dX7_lay_56 rfl (lv_at hl 3 rfl) ?_
        obtain ⟨h13, hf⟩ := bq_cks hf
        obtain ⟨σ12, eσ12, hf⟩ := bq_lts hf
        refine bq_iast hx hb hK hP hD hS tA10 rfl h13 (j := (((700 : Int32) + (σ 4 v3.toNatClampNeg)).toNatClampNeg)) rfl dX7_lay_57 (fun H locs hP hD hS => ?_)
        rw [← eσ12] at hP hD
        refine lv_aload_n hx hb dX7_lay_58 rfl (lv_at hl 2 rfl) ?_
        refine tw_get (v := .ref (a 4)) hx hb hts hown hK hP 5 (Nat.le_of_ble_eq_true rfl) (hts _ q1696) rfl dX7_lay_59 ?_
        refine lv_iload_n hx hb dX7_lay_62 rfl (lv_at hl 1 rfl) ?_
        refine lv_dup2_11 hx hb dX7_lay_63 rfl rfl ?_
        obtain ⟨h14, hf⟩ := bq_cks hf
        refine bq_iald hx hb hK hP tA4 rfl h14 (j := v3.toNatClampNeg) rfl dX7_lay_64 ?_
        refine lv_iconst (v := (1 : Int32)) hx hb dX7_lay_65 (by decide) ?_
        refine lv_iadd hx hb dX7_lay_66 ?_
        obtain ⟨h16, hf⟩ := bq_cks hf
        obtain ⟨σ15, eσ15, hf⟩ := bq_lts hf
        refine bq_iast hx hb hK hP hD hS tA4 rfl h16 (j := v3.toNatClampNeg) rfl dX7_lay_67 (fun H locs hP hD hS => ?_)
        rw [← eσ15] at hP hD
        obtain rfl := Option.some.inj hf
        exact bq_vret C hr hP hD hS dX7_lay_68
    · have hf := bq_in c2 hf
      refine lv_bipush (v := (7 : Int32)) hx hb dX7_lay_17 (by decide) ?_
      refine lv_goto (tgt := 24) hx hb dX7_lay_19 (by decide) ?_
      refine lv_iadd hx hb dX7_lay_24 ?_
      obtain ⟨v17, ev17, hf⟩ := bq_lts hf
      refine bq_tope ev17 ?_
      refine lv_istore_n (lv' := [(2, .int v17), (0, .ref (a 0)), (1, .int x1)]) hx hb dX7_lay_25 rfl hl (by decide) rfl (fun ls hl => ?_)
      refine lv_aload_n hx hb dX7_lay_26 rfl (lv_at hl 1 rfl) ?_
      refine tw_get (v := .int (σ 0 27)) hx hb hts hown hK hP 27 (Nat.le_of_ble_eq_true rfl) (hts _ q1718) rfl dX7_lay_27 ?_
      refine lv_if_eq (tgt := 40) hx hb dX7_lay_30 (by decide) (fun c18 => ?_) (fun c18 => ?_)
      · have hf := bq_ip c18 hf
        refine lv_aload_n hx hb dX7_lay_40 rfl (lv_at hl 1 rfl) ?_
        refine tw_get (v := .ref (a 9)) hx hb hts hown hK hP 10 (Nat.le_of_ble_eq_true rfl) (hts _ q1701) rfl dX7_lay_41 ?_
        refine lv_astore_n (lv' := [(3, .ref (a 9)), (2, .int v17), (0, .ref (a 0)), (1, .int x1)]) hx hb dX7_lay_44 rfl hl (by decide) rfl (fun ls hl => ?_)
        refine lv_aload_n hx hb dX7_lay_45 rfl (lv_at hl 0 rfl) ?_
        refine lv_sipush (v := (700 : Int32)) hx hb dX7_lay_46 (by decide) ?_
        refine lv_aload_n hx hb dX7_lay_49 rfl (lv_at hl 2 rfl) ?_
        refine tw_get (v := .ref (a 4)) hx hb hts hown hK hP 5 (Nat.le_of_ble_eq_true rfl) (hts _ q1696) rfl dX7_lay_50 ?_
        refine lv_iload_n hx hb dX7_lay_53 rfl (lv_at hl 1 rfl) ?_
        obtain ⟨h19, hf⟩ := bq_cks hf
        refine bq_iald hx hb hK hP tA4 rfl h19 (j := v17.toNatClampNeg) rfl dX7_lay_54 ?_
        refine lv_iadd hx hb dX7_lay_55 ?_
        refine lv_iload_n hx hb dX7_lay_56 rfl (lv_at hl 3 rfl) ?_
        obtain ⟨h21, hf⟩ := bq_cks hf
        obtain ⟨σ20, eσ20, hf⟩ := bq_lts hf
        refine bq_iast hx hb hK hP hD hS tA9 rfl h21 (j := (((700 : Int32) + (σ 4 v17.toNatClampNeg)).toNatClampNeg)) rfl dX7_lay_57 (fun H locs hP hD hS => ?_)
        rw [← eσ20] at hP hD
        refine lv_aload_n hx hb dX7_lay_58 rfl (lv_at hl 2 rfl) ?_
        refine tw_get (v := .ref (a 4)) hx hb hts hown hK hP 5 (Nat.le_of_ble_eq_true rfl) (hts _ q1696) rfl dX7_lay_59 ?_
        refine lv_iload_n hx hb dX7_lay_62 rfl (lv_at hl 1 rfl) ?_
        refine lv_dup2_11 hx hb dX7_lay_63 rfl rfl ?_
        obtain ⟨h22, hf⟩ := bq_cks hf
        refine bq_iald hx hb hK hP tA4 rfl h22 (j := v17.toNatClampNeg) rfl dX7_lay_64 ?_
        refine lv_iconst (v := (1 : Int32)) hx hb dX7_lay_65 (by decide) ?_
        refine lv_iadd hx hb dX7_lay_66 ?_
        obtain ⟨h24, hf⟩ := bq_cks hf
        obtain ⟨σ23, eσ23, hf⟩ := bq_lts hf
        refine bq_iast hx hb hK hP hD hS tA4 rfl h24 (j := v17.toNatClampNeg) rfl dX7_lay_67 (fun H locs hP hD hS => ?_)
        rw [← eσ23] at hP hD
        obtain rfl := Option.some.inj hf
        exact bq_vret C hr hP hD hS dX7_lay_68
      · have hf := bq_in c18 hf
        refine lv_aload_n hx hb dX7_lay_33 rfl (lv_at hl 1 rfl) ?_
        refine tw_get (v := .ref (a 10)) hx hb hts hown hK hP 11 (Nat.le_of_ble_eq_true rfl) (hts _ q1702) rfl dX7_lay_34 ?_
        refine lv_goto (tgt := 44) hx hb dX7_lay_37 (by decide) ?_
        refine lv_astore_n (lv' := [(3, .ref (a 10)), (2, .int v17), (0, .ref (a 0)), (1, .int x1)]) hx hb dX7_lay_44 rfl hl (by decide) rfl (fun ls hl => ?_)
        refine lv_aload_n hx hb dX7_lay_45 rfl (lv_at hl 0 rfl) ?_
        refine lv_sipush (v := (700 : Int32)) hx hb dX7_lay_46 (by decide) ?_
        refine lv_aload_n hx hb dX7_lay_49 rfl (lv_at hl 2 rfl) ?_
        refine tw_get (v := .ref (a 4)) hx hb hts hown hK hP 5 (Nat.le_of_ble_eq_true rfl) (hts _ q1696) rfl dX7_lay_50 ?_
        refine lv_iload_n hx hb dX7_lay_53 rfl (lv_at hl 1 rfl) ?_
        obtain ⟨h25, hf⟩ := bq_cks hf
        refine bq_iald hx hb hK hP tA4 rfl h25 (j := v17.toNatClampNeg) rfl dX7_lay_54 ?_
        refine lv_iadd hx hb dX7_lay_55 ?_
        refine lv_iload_n hx hb dX7_lay_56 rfl (lv_at hl 3 rfl) ?_
        obtain ⟨h27, hf⟩ := bq_cks hf
        obtain ⟨σ26, eσ26, hf⟩ := bq_lts hf
        refine bq_iast hx hb hK hP hD hS tA10 rfl h27 (j := (((700 : Int32) + (σ 4 v17.toNatClampNeg)).toNatClampNeg)) rfl dX7_lay_57 (fun H locs hP hD hS => ?_)
        rw [← eσ26] at hP hD
        refine lv_aload_n hx hb dX7_lay_58 rfl (lv_at hl 2 rfl) ?_
        refine tw_get (v := .ref (a 4)) hx hb hts hown hK hP 5 (Nat.le_of_ble_eq_true rfl) (hts _ q1696) rfl dX7_lay_59 ?_
        refine lv_iload_n hx hb dX7_lay_62 rfl (lv_at hl 1 rfl) ?_
        refine lv_dup2_11 hx hb dX7_lay_63 rfl rfl ?_
        obtain ⟨h28, hf⟩ := bq_cks hf
        refine bq_iald hx hb hK hP tA4 rfl h28 (j := v17.toNatClampNeg) rfl dX7_lay_64 ?_
        refine lv_iconst (v := (1 : Int32)) hx hb dX7_lay_65 (by decide) ?_
        refine lv_iadd hx hb dX7_lay_66 ?_
        obtain ⟨h30, hf⟩ := bq_cks hf
        obtain ⟨σ29, eσ29, hf⟩ := bq_lts hf
        refine bq_iast hx hb hK hP hD hS tA4 rfl h30 (j := v17.toNatClampNeg) rfl dX7_lay_67 (fun H locs hP hD hS => ?_)
        rw [← eσ29] at hP hD
        obtain rfl := Option.some.inj hf
        exact bq_vret C hr hP hD hS dX7_lay_68
  · have hf := bq_in c1 hf
    obtain rfl := Option.some.inj hf
    exact bq_vret C hr hP hD hS dX7_lay_7
set_option maxHeartbeats 4000000 in
theorem met_tw_mark {l : Launch} {D : va_G} {am : bqAm} {d : Nat → ClassId} {a X : Nat → Nat} {F : Nat} {σ : bqS} {σ' : bqS} {x1 : Int32} (hok : bq_Ok am) (hf : tw_mark F σ x1 = some σ') : bq_M l yX7_mark cX7_mark 2 none 2 42 D bqCl (bqTy d) am [.ref (a 0), .int x1] (tW d a X σ) none (tW d a X σ') := by
  unfold tw_mark at hf
  refine bq_of hok (by decide +kernel) (Nat.le_of_ble_eq_true rfl) ?_
  intro p e s m below meth c A ls C hr hP hD hS hl
  have C0 := C
  obtain ⟨hx, hb, hown, hts, hml, hlocks, hA, hK, hm, hRf, hRl, hok⟩ := C
  have C := C0
  have hl : lv_has ls 2 [(0, .ref (a 0)), (1, .int x1)] := hl
  refine lv_aload_n hx hb dX7_mark_0 rfl (lv_at hl 0 rfl) ?_
  refine tw_get (v := .int (σ 0 22)) hx hb hts hown hK hP 22 (Nat.le_of_ble_eq_true rfl) (hts _ q1713) rfl dX7_mark_1 ?_
  refine lv_if_ne (tgt := 20) hx hb dX7_mark_4 (by decide) (fun c1 => ?_) (fun c1 => ?_)
  · have hf := bq_in c1 hf
    refine lv_aload_n hx hb dX7_mark_20 rfl (lv_at hl 0 rfl) ?_
    refine tw_get (v := .int (σ 0 22)) hx hb hts hown hK hP 22 (Nat.le_of_ble_eq_true rfl) (hts _ q1713) rfl dX7_mark_21 ?_
    refine lv_if_ne (tgt := 31) hx hb dX7_mark_24 (by decide) (fun c2 => ?_) (fun c2 => ?_)
    · have hf := bq_in c2 hf
      obtain rfl := Option.some.inj hf
      exact bq_vret C hr hP hD hS dX7_mark_31
    · have hf := bq_ip c2 hf
      refine lv_aload_n hx hb dX7_mark_27 rfl (lv_at hl 0 rfl) ?_
      obtain ⟨σ3, hg, hf⟩ := bq_b1s hf
      refine bq_callVv (As := []) (rest := []) C (met_tw_stepOn hok  hg) (lw_V q1900 q1902 qs51 q140 q1903) (hd_X7_stepOn) (Nat.le_of_ble_eq_true rfl) (Nat.le_of_ble_eq_true rfl) (va_recv hK hP (ci := 0) (q0 := 0) rfl rfl) rfl hl.1 rfl (Nat.le_of_ble_eq_true rfl) dX7_mark_28 hP hD hS (fun H locs hP hD hS => ?_)
      obtain rfl := Option.some.inj hf
      exact bq_vret C hr hP hD hS dX7_mark_31
  · have hf := bq_ip c1 hf
    refine lv_aload_n hx hb dX7_mark_7 rfl (lv_at hl 0 rfl) ?_
    refine lv_iload_n hx hb dX7_mark_8 rfl (lv_at hl 1 rfl) ?_
    obtain ⟨v4, hg, hf⟩ := bq_b1s hf
    refine bq_callVi (As := [.int x1]) (rest := []) C (met_tw_isMarked hok  hg) (lw_V q1967 q1969 qs63 q140 q1970) (hd_X7_isMarked) (Nat.le_of_ble_eq_true rfl) (Nat.le_of_ble_eq_true rfl) (va_recv hK hP (ci := 0) (q0 := 0) rfl rfl) rfl hl.1 rfl (Nat.le_of_ble_eq_true rfl) dX7_mark_9 hP hD hS (fun H locs hP hD hS => ?_)
    refine lv_if_ne (tgt := 20) hx hb dX7_mark_12 (by decide) (fun c5 => ?_) (fun c5 => ?_)
    · have hf := bq_in c5 hf
      refine lv_aload_n hx hb dX7_mark_20 rfl (lv_at hl 0 rfl) ?_
      refine tw_get (v := .int (σ 0 22)) hx hb hts hown hK hP 22 (Nat.le_of_ble_eq_true rfl) (hts _ q1713) rfl dX7_mark_21 ?_
      refine lv_if_ne (tgt := 31) hx hb dX7_mark_24 (by decide) (fun c6 => ?_) (fun c6 => ?_)
      · have hf := bq_in c6 hf
        obtain rfl := Option.some.inj hf
        exact bq_vret C hr hP hD hS dX7_mark_31
      · have hf := bq_ip c6 hf
        refine lv_aload_n hx hb dX7_mark_27 rfl (lv_at hl 0 rfl) ?_
        obtain ⟨σ7, hg, hf⟩ := bq_b1s hf
        refine bq_callVv (As := []) (rest := []) C (met_tw_stepOn hok  hg) (lw_V q1900 q1902 qs51 q140 q1903) (hd_X7_stepOn) (Nat.le_of_ble_eq_true rfl) (Nat.le_of_ble_eq_true rfl) (va_recv hK hP (ci := 0) (q0 := 0) rfl rfl) rfl hl.1 rfl (Nat.le_of_ble_eq_true rfl) dX7_mark_28 hP hD hS (fun H locs hP hD hS => ?_)
        obtain rfl := Option.some.inj hf
        exact bq_vret C hr hP hD hS dX7_mark_31
    · have hf := bq_ip c5 hf
      refine lv_aload_n hx hb dX7_mark_15 rfl (lv_at hl 0 rfl) ?_
      refine lv_iconst (v := (1 : Int32)) hx hb dX7_mark_16 (by decide) ?_
      obtain ⟨σ8, hg, hf⟩ := bq_b1s hf
      refine bq_callVv (As := [.int (1 : Int32)]) (rest := []) C (met_tw_wrong hok  hg) (lw_V q1939 q1941 qs56 q140 q1942) (hd_X7_wrong) (Nat.le_of_ble_eq_true rfl) (Nat.le_of_ble_eq_true rfl) (va_recv hK hP (ci := 0) (q0 := 0) rfl rfl) rfl hl.1 rfl (Nat.le_of_ble_eq_true rfl) dX7_mark_17 hP hD hS (fun H locs hP hD hS => ?_)
      refine lv_aload_n hx hb dX7_mark_20 rfl (lv_at hl 0 rfl) ?_
      refine tw_get (v := .int (σ8 0 22)) hx hb hts hown hK hP 22 (Nat.le_of_ble_eq_true rfl) (hts _ q1713) rfl dX7_mark_21 ?_
      refine lv_if_ne (tgt := 31) hx hb dX7_mark_24 (by decide) (fun c9 => ?_) (fun c9 => ?_)
      · have hf := bq_in c9 hf
        obtain rfl := Option.some.inj hf
        exact bq_vret C hr hP hD hS dX7_mark_31
      · have hf := bq_ip c9 hf
        refine lv_aload_n hx hb dX7_mark_27 rfl (lv_at hl 0 rfl) ?_
        obtain ⟨σ10, hg, hf⟩ := bq_b1s hf
        refine bq_callVv (As := []) (rest := []) C (met_tw_stepOn hok  hg) (lw_V q1900 q1902 qs51 q140 q1903) (hd_X7_stepOn) (Nat.le_of_ble_eq_true rfl) (Nat.le_of_ble_eq_true rfl) (va_recv hK hP (ci := 0) (q0 := 0) rfl rfl) rfl hl.1 rfl (Nat.le_of_ble_eq_true rfl) dX7_mark_28 hP hD hS (fun H locs hP hD hS => ?_)
        obtain rfl := Option.some.inj hf
        exact bq_vret C hr hP hD hS dX7_mark_31
set_option maxHeartbeats 4000000 in
theorem met_tw_isOf {l : Launch} {D : va_G} {cl : List vw_C} {tys : List (ClassId × FieldType)} {am : bqAm} {w : va_W} {r : Int32} {x0 : Int32} {x1 : Int32} (hok : bq_Ok am) (hf : tw_isOf x0 x1 = some r) : bq_M l yX7_isOf cX7_isOf 2 (some .boolean) 0 0 D cl tys am [.int x0, .int x1] w (some (.int r)) w := by
  unfold tw_isOf at hf
  refine bq_of hok (by decide +kernel) (Nat.le_of_ble_eq_true rfl) ?_
  intro p e s m below meth c A ls C hr hP hD hS hl
  have C0 := C
  obtain ⟨hx, hb, hown, hts, hml, hlocks, hA, hK, hm, hRf, hRl, hok⟩ := C
  have C := C0
  have hl : lv_has ls 2 [(0, .int x0), (1, .int x1)] := hl
  refine lv_iload_n hx hb dX7_isOf_0 rfl (lv_at hl 0 rfl) ?_
  refine lv_iload_n hx hb dX7_isOf_1 rfl (lv_at hl 1 rfl) ?_
  refine lv_ishr hx hb dX7_isOf_2 ?_
  refine lv_iconst (v := (1 : Int32)) hx hb dX7_isOf_3 (by decide) ?_
  refine lv_iand hx hb dX7_isOf_4 ?_
  refine lv_iconst (v := (1 : Int32)) hx hb dX7_isOf_5 (by decide) ?_
  refine lv_icmp_ne (tgt := 13) hx hb dX7_isOf_6 (by decide) (fun c1 => ?_) (fun c1 => ?_)
  · have hf := bq_in c1 hf
    refine lv_iconst (v := (0 : Int32)) hx hb dX7_isOf_13 (by decide) ?_
    obtain rfl := Option.some.inj hf
    exact bq_zret C hr (by decide) hP hD hS dX7_isOf_14
  · have hf := bq_ip c1 hf
    refine lv_iconst (v := (1 : Int32)) hx hb dX7_isOf_9 (by decide) ?_
    refine lv_goto (tgt := 14) hx hb dX7_isOf_10 (by decide) ?_
    obtain rfl := Option.some.inj hf
    exact bq_zret C hr (by decide) hP hD hS dX7_isOf_14
set_option maxHeartbeats 4000000 in
theorem wk_tw_cellNow_J60 {p : Program} {e : Env} {R : Room} {s : State} {m : MethodId} {args : Array Value} {below : List Frame} {meth : Method} {c : Code} {A : Nat → Prop} {l : Launch} {D : va_G} {am : bqAm} {d : Nat → ClassId} {a X : Nat → Nat} (C : bq_C p R s m args meth c A D bqCl (bqTy d) am cX7_cellNow 3 RX7 2 43)  (hr : meth.sig.returnType = (some .int)) (σ : bqS) (x2 : Int32) (r : Int32) (σ' : bqS) (H : Heap) (locs : List Loc) :
      tw_cellNow_J60 σ x2 = some (r, σ') → va_P D bqCl (tW d a X σ) H → va_D A (tW d a X σ) → va_S A s.heap H locs → ∀ ls : Array Slot, lv_has ls 3 [(0, .ref (a 0)), (2, .int x2)] →
      W p l e R s m args below meth c H locs 0 0 (MQ below (bq_Q D bqCl (some (.int r)) (tW d a X σ') A) args s 0 0 A) (F0 m 60 ls []) := by
  have C0 := C
  obtain ⟨hx, hb, hown, hts, hml, hlocks, hA, hK, hm, hRf, hRl, hok⟩ := C
  have C := C0
  intro hf hP hD hS ls hl 
  unfold tw_cellNow_J60 at hf
  refine lv_aload_n hx hb dX7_cellNow_60 rfl (lv_at hl 0 rfl) ?_
  refine lv_iconst (v := (1 : Int32)) hx hb dX7_cellNow_61 (by decide) ?_
  obtain ⟨σ5, eσ5, hf⟩ := bq_lts hf
  refine tw_put (ty := .boolean) (z := (1 : Int32)) hx hb hts hown hK hP hD hS 26 (Nat.le_of_ble_eq_true rfl) (hts _ q1717) rfl rfl rfl rfl rfl dX7_cellNow_62 (fun H locs hP hD hS => ?_)
  rw [← eσ5] at hP hD
  refine lv_aload_n hx hb dX7_cellNow_65 rfl (lv_at hl 0 rfl) ?_
  refine tw_get (v := .int (σ5 0 22)) hx hb hts hown hK hP 22 (Nat.le_of_ble_eq_true rfl) (hts _ q1713) rfl dX7_cellNow_66 ?_
  refine lv_if_ne (tgt := 76) hx hb dX7_cellNow_69 (by decide) (fun c6 => ?_) (fun c6 => ?_)
  · have hf := bq_in c6 hf
    refine lv_iconst (v := (0 : Int32)) hx hb dX7_cellNow_76 (by decide) ?_
    obtain ⟨rfl, rfl⟩ := bq_p2 hf
    exact bq_iret C hr hP hD hS dX7_cellNow_77
  · have hf := bq_ip c6 hf
    refine lv_iload_n hx hb dX7_cellNow_72 rfl (lv_at hl 1 rfl) ?_
    refine lv_goto (tgt := 77) hx hb dX7_cellNow_73 (by decide) ?_
    obtain ⟨rfl, rfl⟩ := bq_p2 hf
    exact bq_iret C hr hP hD hS dX7_cellNow_77
set_option maxHeartbeats 4000000 in
theorem wk_tw_cellNow_J40 {p : Program} {e : Env} {R : Room} {s : State} {m : MethodId} {args : Array Value} {below : List Frame} {meth : Method} {c : Code} {A : Nat → Prop} {l : Launch} {D : va_G} {am : bqAm} {d : Nat → ClassId} {a X : Nat → Nat} (C : bq_C p R s m args meth c A D bqCl (bqTy d) am cX7_cellNow 3 RX7 2 43)  (hr : meth.sig.returnType = (some .int)) (σ : bqS) (x1 : Int32) (x2 : Int32) (r : Int32) (σ' : bqS) (H : Heap) (locs : List Loc) :
      tw_cellNow_J40 σ x1 x2 = some (r, σ') → va_P D bqCl (tW d a X σ) H → va_D A (tW d a X σ) → va_S A s.heap H locs → ∀ ls : Array Slot, lv_has ls 3 [(0, .ref (a 0)), (1, .int x1), (2, .int x2)] →
      W p l e R s m args below meth c H locs 0 0 (MQ below (bq_Q D bqCl (some (.int r)) (tW d a X σ') A) args s 0 0 A) (F0 m 40 ls []) := by
  have C0 := C
  obtain ⟨hx, hb, hown, hts, hml, hlocks, hA, hK, hm, hRf, hRl, hok⟩ := C
  have C := C0
  intro hf hP hD hS ls hl 
  unfold tw_cellNow_J40 at hf
  refine lv_aload_n hx hb dX7_cellNow_40 rfl (lv_at hl 0 rfl) ?_
  refine tw_get (v := .int (σ 0 22)) hx hb hts hown hK hP 22 (Nat.le_of_ble_eq_true rfl) (hts _ q1713) rfl dX7_cellNow_41 ?_
  refine lv_if_ne (tgt := 60) hx hb dX7_cellNow_44 (by decide) (fun c4 => ?_) (fun c4 => ?_)
  · have hf := bq_in c4 hf
    exact wk_tw_cellNow_J60 C hr _ _ _ _ _ _ hf hP hD hS ls (lv_sub hl [0, 2] rfl)
  · have hf := bq_ip c4 hf
    refine lv_iload_n hx hb dX7_cellNow_47 rfl (lv_at hl 1 rfl) ?_
    refine lv_iload_n hx hb dX7_cellNow_48 rfl (lv_at hl 2 rfl) ?_
    obtain ⟨v7, hg, hf⟩ := bq_b1s hf
    refine bq_callSi (As := [.int x1, .int x2]) (rest := []) C (met_tw_isOf hok  hg) (lw_S q2010 q2011 q140 q2012) (hd_X7_isOf) (Nat.le_of_ble_eq_true rfl) (Nat.le_of_ble_eq_true rfl) rfl hl.1 rfl (Nat.le_of_ble_eq_true rfl) dX7_cellNow_49 hP hD hS (fun H locs hP hD hS => ?_)
    refine lv_if_eq (tgt := 60) hx hb dX7_cellNow_52 (by decide) (fun c8 => ?_) (fun c8 => ?_)
    · have hf := bq_ip c8 hf
      exact wk_tw_cellNow_J60 C hr _ _ _ _ _ _ hf hP hD hS ls (lv_sub hl [0, 2] rfl)
    · have hf := bq_in c8 hf
      refine lv_aload_n hx hb dX7_cellNow_55 rfl (lv_at hl 0 rfl) ?_
      refine lv_iconst (v := (4 : Int32)) hx hb dX7_cellNow_56 (by decide) ?_
      obtain ⟨σ9, hg, hf⟩ := bq_b1s hf
      refine bq_callVv (As := [.int (4 : Int32)]) (rest := []) C (met_tw_wrong hok  hg) (lw_V q1939 q1941 qs56 q140 q1942) (hd_X7_wrong) (Nat.le_of_ble_eq_true rfl) (Nat.le_of_ble_eq_true rfl) (va_recv hK hP (ci := 0) (q0 := 0) rfl rfl) rfl hl.1 rfl (Nat.le_of_ble_eq_true rfl) dX7_cellNow_57 hP hD hS (fun H locs hP hD hS => ?_)
      exact wk_tw_cellNow_J60 C hr _ _ _ _ _ _ hf hP hD hS ls (lv_sub hl [0, 2] rfl)
set_option maxHeartbeats 4000000 in
theorem met_tw_cellNow {l : Launch} {D : va_G} {am : bqAm} {d : Nat → ClassId} {a X : Nat → Nat} {σ : bqS} {σ' : bqS} {r : Int32} {x1 : Int32} (hok : bq_Ok am) (hf : tw_cellNow σ x1 = some (r, σ')) : bq_M l yX7_cellNow cX7_cellNow 3 (some .int) 2 43 D bqCl (bqTy d) am [.ref (a 0), .int x1] (tW d a X σ) (some (.int r)) (tW d a X σ') := by
  unfold tw_cellNow at hf
  refine bq_of hok (by decide +kernel) (Nat.le_of_ble_eq_true rfl) ?_
  intro p e s m below meth c A ls C hr hP hD hS hl
  have C0 := C
  obtain ⟨hx, hb, hown, hts, hml, hlocks, hA, hK, hm, hRf, hRl, hok⟩ := C
  have C := C0
  have hl : lv_has ls 3 [(0, .ref (a 0)), (1, .int x1)] := hl
  refine lv_aload_n hx hb dX7_cellNow_0 rfl (lv_at hl 0 rfl) ?_
  refine lv_iconst (v := (0 : Int32)) hx hb dX7_cellNow_1 (by decide) ?_
  refine lv_sipush (v := (9999 : Int32)) hx hb dX7_cellNow_2 (by decide) ?_
  obtain ⟨v1, σ2, hg, hf⟩ := bq_b2s hf
  refine bq_callVi (As := [.int (0 : Int32), .int (9999 : Int32)]) (rest := []) C (met_tw_numberNow hok  hg) (lw_V q1955 q1957 qs60 q140 q1958) (hd_X7_numberNow) (Nat.le_of_ble_eq_true rfl) (Nat.le_of_ble_eq_true rfl) (va_recv hK hP (ci := 0) (q0 := 0) rfl rfl) rfl hl.1 rfl (Nat.le_of_ble_eq_true rfl) dX7_cellNow_5 hP hD hS (fun H locs hP hD hS => ?_)
  refine lv_istore_n (lv' := [(2, .int v1), (0, .ref (a 0)), (1, .int x1)]) hx hb dX7_cellNow_8 rfl hl (by decide) rfl (fun ls hl => ?_)
  refine lv_aload_n hx hb dX7_cellNow_9 rfl (lv_at hl 1 rfl) ?_
  refine tw_get (v := .int (σ2 0 22)) hx hb hts hown hK hP 22 (Nat.le_of_ble_eq_true rfl) (hts _ q1713) rfl dX7_cellNow_10 ?_
  refine lv_if_ne (tgt := 40) hx hb dX7_cellNow_13 (by decide) (fun c3 => ?_) (fun c3 => ?_)
  · have hf := bq_in c3 hf
    exact wk_tw_cellNow_J40 C hr _ _ _ _ _ _ _ hf hP hD hS ls (lv_sub hl [1, 2, 0] rfl)
  · have hf := bq_ip c3 hf
    refine lv_iload_n hx hb dX7_cellNow_16 rfl (lv_at hl 0 rfl) ?_
    refine lv_aload_n hx hb dX7_cellNow_17 rfl (lv_at hl 1 rfl) ?_
    refine tw_get (v := .ref (a 4)) hx hb hts hown hK hP 5 (Nat.le_of_ble_eq_true rfl) (hts _ q1696) rfl dX7_cellNow_18 ?_
    refine lv_bipush (v := (9 : Int32)) hx hb dX7_cellNow_21 (by decide) ?_
    refine bq_iald hx hb hK hP tA4 rfl (by unfold vp_in; decide) (j := 9) (by decide) dX7_cellNow_23 ?_
    refine lv_aload_n hx hb dX7_cellNow_24 rfl (lv_at hl 1 rfl) ?_
    refine tw_get (v := .ref (a 4)) hx hb hts hown hK hP 5 (Nat.le_of_ble_eq_true rfl) (hts _ q1696) rfl dX7_cellNow_25 ?_
    refine lv_bipush (v := (10 : Int32)) hx hb dX7_cellNow_28 (by decide) ?_
    refine bq_iald hx hb hK hP tA4 rfl (by unfold vp_in; decide) (j := 10) (by decide) dX7_cellNow_30 ?_
    refine lv_imul hx hb dX7_cellNow_31 ?_
    refine lv_icmp_lt (tgt := 40) hx hb dX7_cellNow_32 (by decide) (fun c10 => ?_) (fun c10 => ?_)
    · have hf := bq_ip c10 hf
      exact wk_tw_cellNow_J40 C hr _ _ _ _ _ _ _ hf hP hD hS ls (lv_sub hl [1, 2, 0] rfl)
    · have hf := bq_in c10 hf
      refine lv_aload_n hx hb dX7_cellNow_35 rfl (lv_at hl 1 rfl) ?_
      refine lv_iconst (v := (3 : Int32)) hx hb dX7_cellNow_36 (by decide) ?_
      obtain ⟨σ11, hg, hf⟩ := bq_b1s hf
      refine bq_callVv (As := [.int (3 : Int32)]) (rest := []) C (met_tw_wrong hok  hg) (lw_V q1939 q1941 qs56 q140 q1942) (hd_X7_wrong) (Nat.le_of_ble_eq_true rfl) (Nat.le_of_ble_eq_true rfl) (va_recv hK hP (ci := 0) (q0 := 0) rfl rfl) rfl hl.1 rfl (Nat.le_of_ble_eq_true rfl) dX7_cellNow_37 hP hD hS (fun H locs hP hD hS => ?_)
      exact wk_tw_cellNow_J40 C hr _ _ _ _ _ _ _ hf hP hD hS ls (lv_sub hl [1, 2, 0] rfl)
set_option maxHeartbeats 4000000 in
theorem wk_tw_sayWoman_J17 {p : Program} {e : Env} {R : Room} {s : State} {m : MethodId} {args : Array Value} {below : List Frame} {meth : Method} {c : Code} {A : Nat → Prop} {l : Launch} {D : va_G} {am : bqAm} {d : Nat → ClassId} {a X : Nat → Nat} {F : Nat} (C : bq_C p R s m args meth c A D bqCl (bqTy d) am cX7_sayWoman 3 RX7 3 66)  (hr : meth.sig.returnType = none) (σ : bqS) (x1 : Int32) (σ' : bqS) (H : Heap) (locs : List Loc) :
      tw_sayWoman_J17 F σ x1 = some σ' → va_P D bqCl (tW d a X σ) H → va_D A (tW d a X σ) → va_S A s.heap H locs → ∀ ls : Array Slot, lv_has ls 3 [(0, .ref (a 0)), (1, .int x1)] →
      W p l e R s m args below meth c H locs 0 0 (MQ below (bq_Q D bqCl none (tW d a X σ') A) args s 0 0 A) (F0 m 17 ls []) := by
  have C0 := C
  obtain ⟨hx, hb, hown, hts, hml, hlocks, hA, hK, hm, hRf, hRl, hok⟩ := C
  have C := C0
  intro hf hP hD hS ls hl 
  unfold tw_sayWoman_J17 at hf
  refine lv_aload_n hx hb dX7_sayWoman_17 rfl (lv_at hl 0 rfl) ?_
  refine tw_get (v := .int (σ 0 22)) hx hb hts hown hK hP 22 (Nat.le_of_ble_eq_true rfl) (hts _ q1713) rfl dX7_sayWoman_18 ?_
  refine lv_if_eq (tgt := 25) hx hb dX7_sayWoman_21 (by decide) (fun c2 => ?_) (fun c2 => ?_)
  · have hf := bq_ip c2 hf
    refine lv_aload_n hx hb dX7_sayWoman_25 rfl (lv_at hl 0 rfl) ?_
    obtain ⟨σ3, hg, hf⟩ := bq_b1s hf
    refine bq_callVv (As := []) (rest := []) C (met_tw_stepOn hok  hg) (lw_V q1900 q1902 qs51 q140 q1903) (hd_X7_stepOn) (Nat.le_of_ble_eq_true rfl) (Nat.le_of_ble_eq_true rfl) (va_recv hK hP (ci := 0) (q0 := 0) rfl rfl) rfl hl.1 rfl (Nat.le_of_ble_eq_true rfl) dX7_sayWoman_26 hP hD hS (fun H locs hP hD hS => ?_)
    refine lv_bipush (v := (6 : Int32)) hx hb dX7_sayWoman_29 (by decide) ?_
    refine lv_aload_n hx hb dX7_sayWoman_31 rfl (lv_at hl 0 rfl) ?_
    refine tw_get (v := .ref (a 4)) hx hb hts hown hK hP 5 (Nat.le_of_ble_eq_true rfl) (hts _ q1696) rfl dX7_sayWoman_32 ?_
    refine lv_bipush (v := (11 : Int32)) hx hb dX7_sayWoman_35 (by decide) ?_
    refine bq_iald hx hb hK hP tA4 rfl (by unfold vp_in; decide) (j := 11) (by decide) dX7_sayWoman_37 ?_
    refine lv_iadd hx hb dX7_sayWoman_38 ?_
    obtain ⟨v4, ev4, hf⟩ := bq_lts hf
    refine bq_tope ev4 ?_
    refine lv_istore_n (lv' := [(2, .int v4), (0, .ref (a 0)), (1, .int x1)]) hx hb dX7_sayWoman_39 rfl hl (by decide) rfl (fun ls hl => ?_)
    refine lv_aload_n hx hb dX7_sayWoman_40 rfl (lv_at hl 1 rfl) ?_
    refine tw_get (v := .ref (a 6)) hx hb hts hown hK hP 7 (Nat.le_of_ble_eq_true rfl) (hts _ q1698) rfl dX7_sayWoman_41 ?_
    refine lv_iload_n hx hb dX7_sayWoman_44 rfl (lv_at hl 0 rfl) ?_
    refine lv_iload_n hx hb dX7_sayWoman_45 rfl (lv_at hl 2 rfl) ?_
    obtain ⟨h6, hf⟩ := bq_cks hf
    obtain ⟨σ5, eσ5, hf⟩ := bq_lts hf
    refine bq_iast hx hb hK hP hD hS tA6 rfl h6 (j := v4.toNatClampNeg) rfl dX7_sayWoman_46 (fun H locs hP hD hS => ?_)
    rw [← eσ5] at hP hD
    refine lv_aload_n hx hb dX7_sayWoman_47 rfl (lv_at hl 1 rfl) ?_
    refine tw_get (v := .ref (a 7)) hx hb hts hown hK hP 8 (Nat.le_of_ble_eq_true rfl) (hts _ q1699) rfl dX7_sayWoman_48 ?_
    refine lv_iload_n hx hb dX7_sayWoman_51 rfl (lv_at hl 0 rfl) ?_
    refine lv_aload_n hx hb dX7_sayWoman_52 rfl (lv_at hl 1 rfl) ?_
    refine lv_iconst (v := (0 : Int32)) hx hb dX7_sayWoman_53 (by decide) ?_
    refine lv_bipush (v := (9 : Int32)) hx hb dX7_sayWoman_54 (by decide) ?_
    obtain ⟨v7, σ8, hg, hf⟩ := bq_b2s hf
    refine bq_callVi (As := [.int (0 : Int32), .int (9 : Int32)]) (rest := [.int v4, .ref (a 7)]) C (met_tw_readNumber hok  hg) (lw_V q1951 q1953 qs59 q140 q1954) (hd_X7_readNumber) (Nat.le_of_ble_eq_true rfl) (Nat.le_of_ble_eq_true rfl) (va_recv hK hP (ci := 0) (q0 := 0) rfl rfl) rfl hl.1 rfl (Nat.le_of_ble_eq_true rfl) dX7_sayWoman_56 hP hD hS (fun H locs hP hD hS => ?_)
    obtain ⟨h10, hf⟩ := bq_cks hf
    obtain ⟨σ9, eσ9, hf⟩ := bq_lts hf
    refine bq_iast hx hb hK hP hD hS tA7 rfl h10 (j := v4.toNatClampNeg) rfl dX7_sayWoman_59 (fun H locs hP hD hS => ?_)
    rw [← eσ9] at hP hD
    refine lv_aload_n hx hb dX7_sayWoman_60 rfl (lv_at hl 1 rfl) ?_
    refine tw_get (v := .ref (a 8)) hx hb hts hown hK hP 9 (Nat.le_of_ble_eq_true rfl) (hts _ q1700) rfl dX7_sayWoman_61 ?_
    refine lv_iload_n hx hb dX7_sayWoman_64 rfl (lv_at hl 0 rfl) ?_
    refine lv_aload_n hx hb dX7_sayWoman_65 rfl (lv_at hl 1 rfl) ?_
    refine lv_iconst (v := (0 : Int32)) hx hb dX7_sayWoman_66 (by decide) ?_
    obtain ⟨v11, σ12, hg, hf⟩ := bq_b2s hf
    refine bq_callVi (As := [.int (0 : Int32)]) (rest := [.int v4, .ref (a 8)]) C (met_tw_cellNow hok  hg) (lw_V q2006 q2008 qs72 q140 q2009) (hd_X7_cellNow) (Nat.le_of_ble_eq_true rfl) (Nat.le_of_ble_eq_true rfl) (va_recv hK hP (ci := 0) (q0 := 0) rfl rfl) rfl hl.1 rfl (Nat.le_of_ble_eq_true rfl) dX7_sayWoman_67 hP hD hS (fun H locs hP hD hS => ?_)
    obtain ⟨h14, hf⟩ := bq_cks hf
    obtain ⟨σ13, eσ13, hf⟩ := bq_lts hf
    refine bq_iast hx hb hK hP hD hS tA8 rfl h14 (j := v4.toNatClampNeg) rfl dX7_sayWoman_70 (fun H locs hP hD hS => ?_)
    rw [← eσ13] at hP hD
    refine lv_aload_n hx hb dX7_sayWoman_71 rfl (lv_at hl 1 rfl) ?_
    refine tw_get (v := .int (σ13 0 22)) hx hb hts hown hK hP 22 (Nat.le_of_ble_eq_true rfl) (hts _ q1713) rfl dX7_sayWoman_72 ?_
    refine lv_if_eq (tgt := 79) hx hb dX7_sayWoman_75 (by decide) (fun c15 => ?_) (fun c15 => ?_)
    · have hf := bq_ip c15 hf
      refine lv_aload_n hx hb dX7_sayWoman_79 rfl (lv_at hl 1 rfl) ?_
      obtain ⟨σ16, hg, hf⟩ := bq_b1s hf
      refine bq_callVv (As := []) (rest := []) C (met_tw_stepOn hok  hg) (lw_V q1900 q1902 qs51 q140 q1903) (hd_X7_stepOn) (Nat.le_of_ble_eq_true rfl) (Nat.le_of_ble_eq_true rfl) (va_recv hK hP (ci := 0) (q0 := 0) rfl rfl) rfl hl.1 rfl (Nat.le_of_ble_eq_true rfl) dX7_sayWoman_80 hP hD hS (fun H locs hP hD hS => ?_)
      refine lv_aload_n hx hb dX7_sayWoman_83 rfl (lv_at hl 1 rfl) ?_
      refine tw_get (v := .ref (a 4)) hx hb hts hown hK hP 5 (Nat.le_of_ble_eq_true rfl) (hts _ q1696) rfl dX7_sayWoman_84 ?_
      refine lv_bipush (v := (11 : Int32)) hx hb dX7_sayWoman_87 (by decide) ?_
      refine lv_dup2_11 hx hb dX7_sayWoman_89 rfl rfl ?_
      refine bq_iald hx hb hK hP tA4 rfl (by unfold vp_in; decide) (j := 11) (by decide) dX7_sayWoman_90 ?_
      refine lv_iconst (v := (1 : Int32)) hx hb dX7_sayWoman_91 (by decide) ?_
      refine lv_iadd hx hb dX7_sayWoman_92 ?_
      obtain ⟨σ17, eσ17, hf⟩ := bq_lts hf
      refine bq_iast hx hb hK hP hD hS tA4 rfl (by unfold vp_in; decide) (j := 11) (by decide) dX7_sayWoman_93 (fun H locs hP hD hS => ?_)
      rw [← eσ17] at hP hD
      obtain rfl := Option.some.inj hf
      exact bq_vret C hr hP hD hS dX7_sayWoman_94
    · have hf := bq_in c15 hf
      obtain rfl := Option.some.inj hf
      exact bq_vret C hr hP hD hS dX7_sayWoman_78
  · have hf := bq_in c2 hf
    obtain rfl := Option.some.inj hf
    exact bq_vret C hr hP hD hS dX7_sayWoman_24
set_option maxHeartbeats 4000000 in
theorem met_tw_sayWoman {l : Launch} {D : va_G} {am : bqAm} {d : Nat → ClassId} {a X : Nat → Nat} {F : Nat} {σ : bqS} {σ' : bqS} {x1 : Int32} (hok : bq_Ok am) (hf : tw_sayWoman F σ x1 = some σ') : bq_M l yX7_sayWoman cX7_sayWoman 3 none 3 66 D bqCl (bqTy d) am [.ref (a 0), .int x1] (tW d a X σ) none (tW d a X σ') := by
  unfold tw_sayWoman at hf
  refine bq_of hok (by decide +kernel) (Nat.le_of_ble_eq_true rfl) ?_
  intro p e s m below meth c A ls C hr hP hD hS hl
  have C0 := C
  obtain ⟨hx, hb, hown, hts, hml, hlocks, hA, hK, hm, hRf, hRl, hok⟩ := C
  have C := C0
  have hl : lv_has ls 3 [(0, .ref (a 0)), (1, .int x1)] := hl
  refine lv_aload_n hx hb dX7_sayWoman_0 rfl (lv_at hl 0 rfl) ?_
  refine tw_get (v := .ref (a 4)) hx hb hts hown hK hP 5 (Nat.le_of_ble_eq_true rfl) (hts _ q1696) rfl dX7_sayWoman_1 ?_
  refine lv_bipush (v := (11 : Int32)) hx hb dX7_sayWoman_4 (by decide) ?_
  refine bq_iald hx hb hK hP tA4 rfl (by unfold vp_in; decide) (j := 11) (by decide) dX7_sayWoman_6 ?_
  refine lv_bipush (v := (6 : Int32)) hx hb dX7_sayWoman_7 (by decide) ?_
  refine lv_icmp_ne (tgt := 17) hx hb dX7_sayWoman_9 (by decide) (fun c1 => ?_) (fun c1 => ?_)
  · have hf := bq_in c1 hf
    exact wk_tw_sayWoman_J17 C hr _ _ _ _ _ hf hP hD hS ls (lv_sub hl [0, 1] rfl)
  · have hf := bq_ip c1 hf
    refine lv_aload_n hx hb dX7_sayWoman_12 rfl (lv_at hl 0 rfl) ?_
    refine lv_iconst (v := (2 : Int32)) hx hb dX7_sayWoman_13 (by decide) ?_
    obtain ⟨σ18, hg, hf⟩ := bq_b1s hf
    refine bq_callVv (As := [.int (2 : Int32)]) (rest := []) C (met_tw_wrong hok  hg) (lw_V q1939 q1941 qs56 q140 q1942) (hd_X7_wrong) (Nat.le_of_ble_eq_true rfl) (Nat.le_of_ble_eq_true rfl) (va_recv hK hP (ci := 0) (q0 := 0) rfl rfl) rfl hl.1 rfl (Nat.le_of_ble_eq_true rfl) dX7_sayWoman_14 hP hD hS (fun H locs hP hD hS => ?_)
    exact wk_tw_sayWoman_J17 C hr _ _ _ _ _ hf hP hD hS ls (lv_sub hl [0, 1] rfl)
set_option maxHeartbeats 4000000 in
theorem met_tw_sayBlue {l : Launch} {D : va_G} {am : bqAm} {d : Nat → ClassId} {a X : Nat → Nat} {F : Nat} {σ : bqS} {σ' : bqS} (hok : bq_Ok am) (hf : tw_sayBlue F σ = some σ') : bq_M l yX7_sayBlue cX7_sayBlue 2 none 3 66 D bqCl (bqTy d) am [.ref (a 0)] (tW d a X σ) none (tW d a X σ') := by
  unfold tw_sayBlue at hf
  refine bq_of hok (by decide +kernel) (Nat.le_of_ble_eq_true rfl) ?_
  intro p e s m below meth c A ls C hr hP hD hS hl
  have C0 := C
  obtain ⟨hx, hb, hown, hts, hml, hlocks, hA, hK, hm, hRf, hRl, hok⟩ := C
  have C := C0
  have hl : lv_has ls 2 [(0, .ref (a 0))] := hl
  refine lv_aload_n hx hb dX7_sayBlue_0 rfl (lv_at hl 0 rfl) ?_
  obtain ⟨σ1, hg, hf⟩ := bq_b1s hf
  refine bq_callVv (As := []) (rest := []) C (met_tw_stepOn hok  hg) (lw_V q1900 q1902 qs51 q140 q1903) (hd_X7_stepOn) (Nat.le_of_ble_eq_true rfl) (Nat.le_of_ble_eq_true rfl) (va_recv hK hP (ci := 0) (q0 := 0) rfl rfl) rfl hl.1 rfl (Nat.le_of_ble_eq_true rfl) dX7_sayBlue_1 hP hD hS (fun H locs hP hD hS => ?_)
  refine lv_aload_n hx hb dX7_sayBlue_4 rfl (lv_at hl 0 rfl) ?_
  refine lv_aload_n hx hb dX7_sayBlue_5 rfl (lv_at hl 0 rfl) ?_
  refine tw_get (v := .int (σ1 0 25)) hx hb hts hown hK hP 25 (Nat.le_of_ble_eq_true rfl) (hts _ q1716) rfl dX7_sayBlue_6 ?_
  obtain ⟨v2, σ3, hg, hf⟩ := bq_b2s hf
  refine bq_callVi (As := [.int (σ1 0 25)]) (rest := []) C (met_tw_cellNow hok  hg) (lw_V q2006 q2008 qs72 q140 q2009) (hd_X7_cellNow) (Nat.le_of_ble_eq_true rfl) (Nat.le_of_ble_eq_true rfl) (va_recv hK hP (ci := 0) (q0 := 0) rfl rfl) rfl hl.1 rfl (Nat.le_of_ble_eq_true rfl) dX7_sayBlue_9 hP hD hS (fun H locs hP hD hS => ?_)
  refine lv_istore_n (lv' := [(1, .int v2), (0, .ref (a 0))]) hx hb dX7_sayBlue_12 rfl hl (by decide) rfl (fun ls hl => ?_)
  refine lv_aload_n hx hb dX7_sayBlue_13 rfl (lv_at hl 1 rfl) ?_
  refine tw_get (v := .int (σ3 0 22)) hx hb hts hown hK hP 22 (Nat.le_of_ble_eq_true rfl) (hts _ q1713) rfl dX7_sayBlue_14 ?_
  refine lv_if_eq (tgt := 21) hx hb dX7_sayBlue_17 (by decide) (fun c4 => ?_) (fun c4 => ?_)
  · have hf := bq_ip c4 hf
    refine lv_aload_n hx hb dX7_sayBlue_21 rfl (lv_at hl 1 rfl) ?_
    obtain ⟨σ5, hg, hf⟩ := bq_b1s hf
    refine bq_callVv (As := []) (rest := []) C (met_tw_stepOn hok  hg) (lw_V q1900 q1902 qs51 q140 q1903) (hd_X7_stepOn) (Nat.le_of_ble_eq_true rfl) (Nat.le_of_ble_eq_true rfl) (va_recv hK hP (ci := 0) (q0 := 0) rfl rfl) rfl hl.1 rfl (Nat.le_of_ble_eq_true rfl) dX7_sayBlue_22 hP hD hS (fun H locs hP hD hS => ?_)
    refine lv_aload_n hx hb dX7_sayBlue_25 rfl (lv_at hl 1 rfl) ?_
    refine lv_dup hx hb dX7_sayBlue_26 rfl ?_
    refine tw_get (v := .int (σ5 0 25)) hx hb hts hown hK hP 25 (Nat.le_of_ble_eq_true rfl) (hts _ q1716) rfl dX7_sayBlue_27 ?_
    refine lv_iconst (v := (1 : Int32)) hx hb dX7_sayBlue_30 (by decide) ?_
    refine lv_iload_n hx hb dX7_sayBlue_31 rfl (lv_at hl 0 rfl) ?_
    refine lv_ishl hx hb dX7_sayBlue_32 ?_
    refine lv_ior hx hb dX7_sayBlue_33 ?_
    obtain ⟨σ6, eσ6, hf⟩ := bq_lts hf
    refine tw_put (ty := .int) (z := (σ5 0 25) ||| ((1 : Int32) <<< (v2 &&& 31))) hx hb hts hown hK hP hD hS 25 (Nat.le_of_ble_eq_true rfl) (hts _ q1716) rfl rfl rfl rfl rfl dX7_sayBlue_34 (fun H locs hP hD hS => ?_)
    rw [← eσ6] at hP hD
    refine lv_aload_n hx hb dX7_sayBlue_37 rfl (lv_at hl 1 rfl) ?_
    refine tw_get (v := .ref (a 5)) hx hb hts hown hK hP 6 (Nat.le_of_ble_eq_true rfl) (hts _ q1697) rfl dX7_sayBlue_38 ?_
    refine lv_bipush (v := (30 : Int32)) hx hb dX7_sayBlue_41 (by decide) ?_
    refine lv_iload_n hx hb dX7_sayBlue_43 rfl (lv_at hl 0 rfl) ?_
    refine lv_iadd hx hb dX7_sayBlue_44 ?_
    refine lv_aload_n hx hb dX7_sayBlue_45 rfl (lv_at hl 1 rfl) ?_
    refine lv_iconst (v := (0 : Int32)) hx hb dX7_sayBlue_46 (by decide) ?_
    refine lv_bipush (v := (99 : Int32)) hx hb dX7_sayBlue_47 (by decide) ?_
    obtain ⟨v7, σ8, hg, hf⟩ := bq_b2s hf
    refine bq_callVi (As := [.int (0 : Int32), .int (99 : Int32)]) (rest := [.int ((30 : Int32) + v2), .ref (a 5)]) C (met_tw_readNumber hok  hg) (lw_V q1951 q1953 qs59 q140 q1954) (hd_X7_readNumber) (Nat.le_of_ble_eq_true rfl) (Nat.le_of_ble_eq_true rfl) (va_recv hK hP (ci := 0) (q0 := 0) rfl rfl) rfl hl.1 rfl (Nat.le_of_ble_eq_true rfl) dX7_sayBlue_49 hP hD hS (fun H locs hP hD hS => ?_)
    obtain ⟨h10, hf⟩ := bq_cks hf
    obtain ⟨σ9, eσ9, hf⟩ := bq_lts hf
    refine bq_iast hx hb hK hP hD hS tA5 rfl h10 (j := (((30 : Int32) + v2).toNatClampNeg)) rfl dX7_sayBlue_52 (fun H locs hP hD hS => ?_)
    rw [← eσ9] at hP hD
    obtain rfl := Option.some.inj hf
    exact bq_vret C hr hP hD hS dX7_sayBlue_53
  · have hf := bq_in c4 hf
    obtain rfl := Option.some.inj hf
    exact bq_vret C hr hP hD hS dX7_sayBlue_20
set_option maxHeartbeats 4000000 in
theorem wk_tw_sayPegs_L17 {p : Program} {e : Env} {R : Room} {s : State} {m : MethodId} {args : Array Value} {below : List Frame} {meth : Method} {c : Code} {A : Nat → Prop} {Q : State → Prop} {l : Launch} {D : va_G} {am : bqAm} {d : Nat → ClassId} {a X : Nat → Nat} {F : Nat} (C : bq_C p R s m args meth c A D bqCl (bqTy d) am cX7_sayPegs 2 RX7 3 65)  :
    ∀ (k : Nat) (σ : bqS) (tg : Nat) (σ' : bqS) (H : Heap) (locs : List Loc), tw_sayPegs_L17 F k σ = some (tg, σ') → va_P D bqCl (tW d a X σ) H → va_D A (tW d a X σ) → va_S A s.heap H locs → ∀ ls : Array Slot, lv_has ls 2 [(0, .ref (a 0))] →
      (tg = 0 → ∀ (H : Heap) (locs : List Loc), va_P D bqCl (tW d a X σ') H → va_D A (tW d a X σ') → va_S A s.heap H locs → ∀ ls : Array Slot, lv_has ls 2 [] → W p l e R s m args below meth c H locs 0 0 Q (F0 m 51 ls [])) →
      (tg = 1 → ∀ (H : Heap) (locs : List Loc), va_P D bqCl (tW d a X σ') H → va_D A (tW d a X σ') → va_S A s.heap H locs → ∀ ls : Array Slot, lv_has ls 2 [] → W p l e R s m args below meth c H locs 0 0 Q (F0 m 72 ls [])) →
      W p l e R s m args below meth c H locs 0 0 Q (F0 m 17 ls []) := by
  have C0 := C
  obtain ⟨hx, hb, hown, hts, hml, hlocks, hA, hK, hm, hRf, hRl, hok⟩ := C
  have C := C0
  intro k
  induction k with
  | zero => intro σ tg σ' H locs hf
            cases hf
  | succ k ih =>
    intro σ tg σ' H locs hf hP hD hS ls hl hk0 hk1
    rw [tw_sayPegs_L17] at hf
    refine lv_aload_n hx hb dX7_sayPegs_17 rfl (lv_at hl 0 rfl) ?_
    refine tw_get (v := .int (σ 0 22)) hx hb hts hown hK hP 22 (Nat.le_of_ble_eq_true rfl) (hts _ q1713) rfl dX7_sayPegs_18 ?_
    refine lv_if_ne (tgt := 72) hx hb dX7_sayPegs_21 (by decide) (fun c3 => ?_) (fun c3 => ?_)
    · have hf := bq_in c3 hf
      obtain ⟨rfl, rfl⟩ := bq_p2 hf
      exact hk1 rfl _ _ hP hD hS ls (lv_sub hl [] rfl)
    · have hf := bq_ip c3 hf
      refine lv_aload_n hx hb dX7_sayPegs_24 rfl (lv_at hl 0 rfl) ?_
      refine tw_get (v := .int (σ 0 18)) hx hb hts hown hK hP 18 (Nat.le_of_ble_eq_true rfl) (hts _ q1709) rfl dX7_sayPegs_25 ?_
      refine lv_iconst (v := (2 : Int32)) hx hb dX7_sayPegs_28 (by decide) ?_
      refine lv_icmp_ne (tgt := 72) hx hb dX7_sayPegs_29 (by decide) (fun c4 => ?_) (fun c4 => ?_)
      · have hf := bq_in c4 hf
        obtain ⟨rfl, rfl⟩ := bq_p2 hf
        exact hk1 rfl _ _ hP hD hS ls (lv_sub hl [] rfl)
      · have hf := bq_ip c4 hf
        refine lv_aload_n hx hb dX7_sayPegs_32 rfl (lv_at hl 0 rfl) ?_
        refine lv_aload_n hx hb dX7_sayPegs_33 rfl (lv_at hl 0 rfl) ?_
        refine tw_get (v := .ref (a 4)) hx hb hts hown hK hP 5 (Nat.le_of_ble_eq_true rfl) (hts _ q1696) rfl dX7_sayPegs_34 ?_
        refine lv_bipush (v := (17 : Int32)) hx hb dX7_sayPegs_37 (by decide) ?_
        refine bq_iald hx hb hK hP tA4 rfl (by unfold vp_in; decide) (j := 17) (by decide) dX7_sayPegs_39 ?_
        obtain ⟨v5, σ6, hg, hf⟩ := bq_b2s hf
        refine bq_callVi (As := [.int (σ 4 17)]) (rest := []) C (met_tw_cellNow hok  hg) (lw_V q2006 q2008 qs72 q140 q2009) (hd_X7_cellNow) (Nat.le_of_ble_eq_true rfl) (Nat.le_of_ble_eq_true rfl) (va_recv hK hP (ci := 0) (q0 := 0) rfl rfl) rfl hl.1 rfl (Nat.le_of_ble_eq_true rfl) dX7_sayPegs_40 hP hD hS (fun H locs hP hD hS => ?_)
        refine lv_istore_n (lv' := [(1, .int v5), (0, .ref (a 0))]) hx hb dX7_sayPegs_43 rfl hl (by decide) rfl (fun ls hl => ?_)
        refine lv_aload_n hx hb dX7_sayPegs_44 rfl (lv_at hl 1 rfl) ?_
        refine tw_get (v := .int (σ6 0 22)) hx hb hts hown hK hP 22 (Nat.le_of_ble_eq_true rfl) (hts _ q1713) rfl dX7_sayPegs_45 ?_
        refine lv_if_eq (tgt := 52) hx hb dX7_sayPegs_48 (by decide) (fun c7 => ?_) (fun c7 => ?_)
        · have hf := bq_ip c7 hf
          refine lv_aload_n hx hb dX7_sayPegs_52 rfl (lv_at hl 1 rfl) ?_
          obtain ⟨σ8, hg, hf⟩ := bq_b1s hf
          refine bq_callVv (As := []) (rest := []) C (met_tw_stepOn hok  hg) (lw_V q1900 q1902 qs51 q140 q1903) (hd_X7_stepOn) (Nat.le_of_ble_eq_true rfl) (Nat.le_of_ble_eq_true rfl) (va_recv hK hP (ci := 0) (q0 := 0) rfl rfl) rfl hl.1 rfl (Nat.le_of_ble_eq_true rfl) dX7_sayPegs_53 hP hD hS (fun H locs hP hD hS => ?_)
          refine lv_aload_n hx hb dX7_sayPegs_56 rfl (lv_at hl 1 rfl) ?_
          refine tw_get (v := .ref (a 4)) hx hb hts hown hK hP 5 (Nat.le_of_ble_eq_true rfl) (hts _ q1696) rfl dX7_sayPegs_57 ?_
          refine lv_bipush (v := (17 : Int32)) hx hb dX7_sayPegs_60 (by decide) ?_
          refine lv_dup2_11 hx hb dX7_sayPegs_62 rfl rfl ?_
          refine bq_iald hx hb hK hP tA4 rfl (by unfold vp_in; decide) (j := 17) (by decide) dX7_sayPegs_63 ?_
          refine lv_iconst (v := (1 : Int32)) hx hb dX7_sayPegs_64 (by decide) ?_
          refine lv_iload_n hx hb dX7_sayPegs_65 rfl (lv_at hl 0 rfl) ?_
          refine lv_ishl hx hb dX7_sayPegs_66 ?_
          refine lv_ior hx hb dX7_sayPegs_67 ?_
          obtain ⟨σ9, eσ9, hf⟩ := bq_lts hf
          refine bq_iast hx hb hK hP hD hS tA4 rfl (by unfold vp_in; decide) (j := 17) (by decide) dX7_sayPegs_68 (fun H locs hP hD hS => ?_)
          rw [← eσ9] at hP hD
          refine lv_goto (tgt := 17) hx hb dX7_sayPegs_69 (by decide) ?_
          exact ih _ _ _ _ _ hf hP hD hS ls (lv_sub hl [1] rfl) hk0 hk1
        · have hf := bq_in c7 hf
          obtain ⟨rfl, rfl⟩ := bq_p2 hf
          exact hk0 rfl _ _ hP hD hS ls (lv_sub hl [] rfl)
set_option maxHeartbeats 4000000 in
theorem met_tw_sayPegs {l : Launch} {D : va_G} {am : bqAm} {d : Nat → ClassId} {a X : Nat → Nat} {F : Nat} {σ : bqS} {σ' : bqS} (hok : bq_Ok am) (hf : tw_sayPegs F σ = some σ') : bq_M l yX7_sayPegs cX7_sayPegs 2 none 3 65 D bqCl (bqTy d) am [.ref (a 0)] (tW d a X σ) none (tW d a X σ') := by
  unfold tw_sayPegs at hf
  refine bq_of hok (by decide +kernel) (Nat.le_of_ble_eq_true rfl) ?_
  intro p e s m below meth c A ls C hr hP hD hS hl
  have C0 := C
  obtain ⟨hx, hb, hown, hts, hml, hlocks, hA, hK, hm, hRf, hRl, hok⟩ := C
  have C := C0
  have hl : lv_has ls 2 [(0, .ref (a 0))] := hl
  refine lv_aload_n hx hb dX7_sayPegs_0 rfl (lv_at hl 0 rfl) ?_
  obtain ⟨σ1, hg, hf⟩ := bq_b1s hf
  refine bq_callVv (As := []) (rest := []) C (met_tw_stepOn hok  hg) (lw_V q1900 q1902 qs51 q140 q1903) (hd_X7_stepOn) (Nat.le_of_ble_eq_true rfl) (Nat.le_of_ble_eq_true rfl) (va_recv hK hP (ci := 0) (q0 := 0) rfl rfl) rfl hl.1 rfl (Nat.le_of_ble_eq_true rfl) dX7_sayPegs_1 hP hD hS (fun H locs hP hD hS => ?_)
  refine lv_aload_n hx hb dX7_sayPegs_4 rfl (lv_at hl 0 rfl) ?_
  refine tw_get (v := .int (σ1 0 18)) hx hb hts hown hK hP 18 (Nat.le_of_ble_eq_true rfl) (hts _ q1709) rfl dX7_sayPegs_5 ?_
  refine lv_iconst (v := (2 : Int32)) hx hb dX7_sayPegs_8 (by decide) ?_
  refine lv_icmp_eq (tgt := 17) hx hb dX7_sayPegs_9 (by decide) (fun c2 => ?_) (fun c2 => ?_)
  · have hf := bq_ip c2 hf
    obtain ⟨t10, σ11, hg, hf⟩ := bq_b2s hf
    refine wk_tw_sayPegs_L17 C _ _ _ _ _ _ hg hP hD hS ls (lv_sub hl [0] rfl) ?_ ?_
    · intro ht_
      intro H locs hP hD hS ls hl
      have hf := bq_ip ht_ hf
      obtain rfl := Option.some.inj hf
      exact bq_vret C hr hP hD hS dX7_sayPegs_51
    · intro ht_
      intro H locs hP hD hS ls hl
      have hf := bq_in (by rw [ht_]; decide) hf
      obtain rfl := Option.some.inj hf
      exact bq_vret C hr hP hD hS dX7_sayPegs_72
  · have hf := bq_in c2 hf
    refine lv_aload_n hx hb dX7_sayPegs_12 rfl (lv_at hl 0 rfl) ?_
    refine lv_iconst (v := (1 : Int32)) hx hb dX7_sayPegs_13 (by decide) ?_
    obtain ⟨σ12, hg, hf⟩ := bq_b1s hf
    refine bq_callVv (As := [.int (1 : Int32)]) (rest := []) C (met_tw_wrong hok  hg) (lw_V q1939 q1941 qs56 q140 q1942) (hd_X7_wrong) (Nat.le_of_ble_eq_true rfl) (Nat.le_of_ble_eq_true rfl) (va_recv hK hP (ci := 0) (q0 := 0) rfl rfl) rfl hl.1 rfl (Nat.le_of_ble_eq_true rfl) dX7_sayPegs_14 hP hD hS (fun H locs hP hD hS => ?_)
    obtain ⟨t13, σ14, hg, hf⟩ := bq_b2s hf
    refine wk_tw_sayPegs_L17 C _ _ _ _ _ _ hg hP hD hS ls (lv_sub hl [0] rfl) ?_ ?_
    · intro ht_
      intro H locs hP hD hS ls hl
      have hf := bq_ip ht_ hf
      obtain rfl := Option.some.inj hf
      exact bq_vret C hr hP hD hS dX7_sayPegs_51
    · intro ht_
      intro H locs hP hD hS ls hl
      have hf := bq_in (by rw [ht_]; decide) hf
      obtain rfl := Option.some.inj hf
      exact bq_vret C hr hP hD hS dX7_sayPegs_72
set_option maxHeartbeats 4000000 in
theorem wk_tw_takeHalf_L2 {p : Program} {e : Env} {R : Room} {s : State} {m : MethodId} {args : Array Value} {below : List Frame} {meth : Method} {c : Code} {A : Nat → Prop} {Q : State → Prop} {l : Launch} {D : va_G} {am : bqAm} {d : Nat → ClassId} {a X : Nat → Nat} {F : Nat} {q0 : Nat} {n0 : Nat} (C : bq_C p R s m args meth c A D bqCl (bqTy d) am cX7_takeHalf 2 RX7 0 0) (hq0 : bq_ar (tW d a X) q0 q0 n0 (d 0) (a q0)) :
    ∀ (k : Nat) (x1 : Int32) (σ : bqS) (σ' : bqS) (H : Heap) (locs : List Loc), tw_takeHalf_L2 F q0 n0 k x1 σ = some σ' → va_P D bqCl (tW d a X σ) H → va_D A (tW d a X σ) → va_S A s.heap H locs → ∀ ls : Array Slot, lv_has ls 2 [(0, .ref (a q0)), (1, .int x1)] →
      (∀ (H : Heap) (locs : List Loc), va_P D bqCl (tW d a X σ') H → va_D A (tW d a X σ') → va_S A s.heap H locs → ∀ ls : Array Slot, lv_has ls 2 [] → W p l e R s m args below meth c H locs 0 0 Q (F0 m 27 ls [])) →
      W p l e R s m args below meth c H locs 0 0 Q (F0 m 2 ls []) := by
  have C0 := C
  obtain ⟨hx, hb, hown, hts, hml, hlocks, hA, hK, hm, hRf, hRl, hok⟩ := C
  have C := C0
  intro k
  induction k with
  | zero => intro x1 σ σ' H locs hf
            cases hf
  | succ k ih =>
    intro x1 σ σ' H locs hf hP hD hS ls hl hk0
    rw [tw_takeHalf_L2] at hf
    refine lv_iload_n hx hb dX7_takeHalf_2 rfl (lv_at hl 1 rfl) ?_
    refine lv_aload_n hx hb dX7_takeHalf_3 rfl (lv_at hl 0 rfl) ?_
    refine bq_alen (v := Int32.ofNat n0) hx hb hK hP hq0 rfl rfl dX7_takeHalf_4 ?_
    refine lv_iconst (v := (2 : Int32)) hx hb dX7_takeHalf_5 (by decide) ?_
    refine lv_idiv hx hb dX7_takeHalf_6 (by decide) ?_
    refine lv_icmp_ge (tgt := 27) hx hb dX7_takeHalf_7 (by decide) (fun c1 => ?_) (fun c1 => ?_)
    · have hf := bq_ip c1 hf
      obtain rfl := Option.some.inj hf
      exact hk0 _ _ hP hD hS ls (lv_sub hl [] rfl)
    · have hf := bq_in c1 hf
      refine lv_aload_n hx hb dX7_takeHalf_10 rfl (lv_at hl 0 rfl) ?_
      refine lv_iload_n hx hb dX7_takeHalf_11 rfl (lv_at hl 1 rfl) ?_
      refine lv_aload_n hx hb dX7_takeHalf_12 rfl (lv_at hl 0 rfl) ?_
      refine lv_aload_n hx hb dX7_takeHalf_13 rfl (lv_at hl 0 rfl) ?_
      refine bq_alen (v := Int32.ofNat n0) hx hb hK hP hq0 rfl rfl dX7_takeHalf_14 ?_
      refine lv_iconst (v := (2 : Int32)) hx hb dX7_takeHalf_15 (by decide) ?_
      refine lv_idiv hx hb dX7_takeHalf_16 (by decide) ?_
      refine lv_iload_n hx hb dX7_takeHalf_17 rfl (lv_at hl 1 rfl) ?_
      refine lv_iadd hx hb dX7_takeHalf_18 ?_
      obtain ⟨h2, hf⟩ := bq_cks hf
      refine bq_iald hx hb hK hP hq0 rfl h2 (j := (((Int32.ofNat n0) / (2 : Int32)) + x1).toNatClampNeg) rfl dX7_takeHalf_19 ?_
      obtain ⟨h4, hf⟩ := bq_cks hf
      obtain ⟨σ3, eσ3, hf⟩ := bq_lts hf
      refine bq_iast hx hb hK hP hD hS hq0 rfl h4 (j := x1.toNatClampNeg) rfl dX7_takeHalf_20 (fun H locs hP hD hS => ?_)
      rw [← eσ3] at hP hD
      obtain ⟨v5, ev5, hf⟩ := bq_lts hf
      refine lv_iinc (v := v5) (lv' := [(1, .int v5), (0, .ref (a q0))]) hx hb dX7_takeHalf_21 hl (k := 1) rfl (bq_inc (by decide) ev5) (by decide) rfl (fun ls hl => ?_)
      refine lv_goto (tgt := 2) hx hb dX7_takeHalf_24 (by decide) ?_
      exact ih _ _ _ _ _ hf hP hD hS ls (lv_sub hl [1, 0] rfl) hk0
set_option maxHeartbeats 4000000 in
theorem met_tw_takeHalf {l : Launch} {D : va_G} {am : bqAm} {d : Nat → ClassId} {a X : Nat → Nat} {F : Nat} {σ : bqS} {σ' : bqS} {q0 : Nat} {n0 : Nat} (hok : bq_Ok am) (hq0 : bq_ar (tW d a X) q0 q0 n0 (d 0) (a q0)) (hf : tw_takeHalf F σ q0 n0 = some σ') : bq_M l yX7_takeHalf cX7_takeHalf 2 none 0 0 D bqCl (bqTy d) am [.ref (a q0)] (tW d a X σ) none (tW d a X σ') := by
  unfold tw_takeHalf at hf
  refine bq_of hok (by decide +kernel) (Nat.le_of_ble_eq_true rfl) ?_
  intro p e s m below meth c A ls C hr hP hD hS hl
  have C0 := C
  obtain ⟨hx, hb, hown, hts, hml, hlocks, hA, hK, hm, hRf, hRl, hok⟩ := C
  have C := C0
  have hl : lv_has ls 2 [(0, .ref (a q0))] := hl
  refine lv_iconst (v := (0 : Int32)) hx hb dX7_takeHalf_0 (by decide) ?_
  refine lv_istore_n (lv' := [(1, .int (0 : Int32)), (0, .ref (a q0))]) hx hb dX7_takeHalf_1 rfl hl (by decide) rfl (fun ls hl => ?_)
  obtain ⟨σ6, hg, hf⟩ := bq_b1s hf
  refine wk_tw_takeHalf_L2 C hq0 _ _ _ _ _ _ hg hP hD hS ls (lv_sub hl [1, 0] rfl) ?_
  · intro H locs hP hD hS ls hl
    obtain rfl := Option.some.inj hf
    exact bq_vret C hr hP hD hS dX7_takeHalf_27
