set_option maxRecDepth 100000
set_option maxHeartbeats 4000000 in
theorem met_bl_within {l : Launch} {D : va_G} {cl : List vw_C} {tys : List (ClassId × FieldType)} {am : bqAm} {w : va_W} {r : Int32} {x0 : Int32} {x1 : Int32} {x2 : Int32} (hok : bq_Ok am) (hf : bl_within x0 x1 x2 = some r) : bq_M l yX1_within cX1_within 3 (some .boolean) 0 0 D cl tys am [.int x0, .int x1, .int x2] w (some (.int r)) w := by
  unfold bl_within at hf
  refine bq_of hok (by decide +kernel) (Nat.le_of_ble_eq_true rfl) ?_
  intro p e s m below meth c A ls C hr hP hD hS hl
  have C0 := C
  obtain ⟨hx, hb, hown, hts, hml, hlocks, hA, hK, hm, hRf, hRl, hok⟩ := C
  have C := C0
  have hkc := Nat.zero_le 0
  have hks := Nat.zero_le 0
  have hl : lv_has ls 3 [(0, .int x0), (1, .int x1), (2, .int x2)] := hl
  refine lv_iload_n hx hb dX1_within_0 rfl (lv_at hl 0 rfl) ?_
  refine lv_iload_n hx hb dX1_within_1 rfl (lv_at hl 1 rfl) ?_
  refine lv_icmp_lt (tgt := 14) hx hb dX1_within_2 (by decide) (fun c1 => ?_) (fun c1 => ?_)
  · have hf := bq_ip c1 hf
    refine lv_iconst (v := (0 : Int32)) hx hb dX1_within_14 (by decide) ?_
    obtain rfl := Option.some.inj hf
    exact bq_zret C hr (by decide) hP hD hS dX1_within_15
  · have hf := bq_in c1 hf
    refine lv_iload_n hx hb dX1_within_5 rfl (lv_at hl 0 rfl) ?_
    refine lv_iload_n hx hb dX1_within_6 rfl (lv_at hl 2 rfl) ?_
    refine lv_icmp_gt (tgt := 14) hx hb dX1_within_7 (by decide) (fun c2 => ?_) (fun c2 => ?_)
    · have hf := bq_ip c2 hf
      refine lv_iconst (v := (0 : Int32)) hx hb dX1_within_14 (by decide) ?_
      obtain rfl := Option.some.inj hf
      exact bq_zret C hr (by decide) hP hD hS dX1_within_15
    · have hf := bq_in c2 hf
      refine lv_iconst (v := (1 : Int32)) hx hb dX1_within_10 (by decide) ?_
      refine lv_goto (tgt := 15) hx hb dX1_within_11 (by decide) ?_
      obtain rfl := Option.some.inj hf
      exact bq_zret C hr (by decide) hP hD hS dX1_within_15
set_option maxHeartbeats 4000000 in
theorem met_bl_cells {l : Launch} {D : va_G} {am : bqAm} {X vE sE : Nat → Nat} {d : Nat → ClassId} {ba ca ia ka na ta : Nat → Nat} {dy fa : Option Nat} {β : bqS} {κ : bqS} {r : Int32} (hok : bq_Ok am) (hamb : bq_Amb am X vE sE) (hf : bl_cells β κ = some r) : bq_M l yX1_cells cX1_cells 1 (some .int) 1 20 D bqCl (bqTy d) am [.ref (ba 0)] (List.flatten ([bbB d ba ca na ta ka ia β, coB d ca dy fa κ] : List va_W)) (some (.int r)) (List.flatten ([bbB d ba ca na ta ka ia β, coB d ca dy fa κ] : List va_W)) := by
  unfold bl_cells at hf
  refine bq_of hok (by decide +kernel) (Nat.le_of_ble_eq_true rfl) ?_
  intro p e s m below meth c A ls C hr hP hD hS hl
  have C0 := C
  obtain ⟨hx, hb, hown, hts, hml, hlocks, hA, hK, hm, hRf, hRl, hok⟩ := C
  have C := C0
  have hkc := Nat.zero_le 0
  have hks := Nat.zero_le 0
  have hl : lv_has ls 1 [(0, .ref (ba 0))] := hl
  refine lv_aload_n hx hb dX1_cells_0 rfl (lv_at hl 0 rfl) ?_
  refine gX1_get (own := RX1) (fs := (bbF ba ca na ta ka ia β)) (v := .ref (ca 0)) hx hb hts hown hK hP (q0 := 0) rfl 0 (Nat.le_of_ble_eq_true rfl) (hts _ q755) rfl dX1_cells_1 ?_
  obtain ⟨v1, hg, hf⟩ := bq_b1s hf
  refine bq_cV (bs := [bbB d ba ca na ta ka ia β, coB d ca dy fa κ]) (bc := [coB d ca dy fa κ]) (br := [bbB d ba ca na ta ka ia β]) (bc' := [coB d ca dy fa κ]) (bs' := [bbB d ba ca na ta ka ia β, coB d ca dy fa κ]) (As := []) (rest := []) (o := (some (.int v1))) C hkc hks (met_co_cells hok hamb hg) (bq_pm [1, 0] rfl rfl rfl) (bq_pm [1, 0] rfl rfl rfl) (lw_V q994 q865 q866 q114 q867) (hd_X2_cells) (Nat.le_of_ble_eq_true rfl) (Nat.le_of_ble_eq_true rfl) (va_recv hK hP (ci := 2) (q0 := 6) rfl rfl) rfl hl.1 rfl (Nat.le_of_ble_eq_true rfl) dX1_cells_4 hP hD hS (fun H locs hP hD hS => ?_)
  obtain rfl := Option.some.inj hf
  exact bq_iret C hr hP hD hS dX1_cells_7
set_option maxHeartbeats 4000000 in
theorem met_bl_girls {l : Launch} {D : va_G} {am : bqAm} {X vE sE : Nat → Nat} {d : Nat → ClassId} {ba ca ia ka na ta : Nat → Nat} {dy fa : Option Nat} {L : Nat} {mc : Int32} {E : bqE} {β : bqS} {κ : bqS} {r : Int32} (hok : bq_Ok am) (hamb : bq_Amb am X vE sE) (hL : E.1 ≤ L ∧ L < 2147483648) (hf : bl_girls E β κ = some r) : bq_M l yX1_girls cX1_girls 1 (some .int) 1 60 D bqCl (bqTy d) am [.ref (ba 0)] (List.flatten ([bbB d ba ca na ta ka ia β, coB d ca dy fa κ, lsB d ca L mc E.1] : List va_W)) (some (.int r)) (List.flatten ([bbB d ba ca na ta ka ia β, coB d ca dy fa κ, lsB d ca L mc E.1] : List va_W)) := by
  unfold bl_girls at hf
  refine bq_of hok (by decide +kernel) (Nat.le_of_ble_eq_true rfl) ?_
  intro p e s m below meth c A ls C hr hP hD hS hl
  have C0 := C
  obtain ⟨hx, hb, hown, hts, hml, hlocks, hA, hK, hm, hRf, hRl, hok⟩ := C
  have C := C0
  have hkc := Nat.zero_le 0
  have hks := Nat.zero_le 0
  have hl : lv_has ls 1 [(0, .ref (ba 0))] := hl
  refine lv_aload_n hx hb dX1_girls_0 rfl (lv_at hl 0 rfl) ?_
  refine gX1_get (own := RX1) (fs := (bbF ba ca na ta ka ia β)) (v := .ref (ca 0)) hx hb hts hown hK hP (q0 := 0) rfl 0 (Nat.le_of_ble_eq_true rfl) (hts _ q755) rfl dX1_girls_1 ?_
  refine gX2_getN (own := RX1) (host := "BlueBag") (fs := (coF ca dy fa κ)) (v := .ref (ca 2)) hx hb hts hown hK hP (q0 := 6) rfl 7 (Nat.le_of_ble_eq_true rfl) (bq_nF hamb hm 1 rfl) rfl dX1_girls_4 ?_
  refine bq_cV (bs := [bbB d ba ca na ta ka ia β, coB d ca dy fa κ, lsB d ca L mc E.1]) (bc := [lsB d ca L mc E.1]) (br := [bbB d ba ca na ta ka ia β, coB d ca dy fa κ]) (bc' := [lsB d ca L mc E.1]) (bs' := [bbB d ba ca na ta ka ia β, coB d ca dy fa κ, lsB d ca L mc E.1]) (As := []) (rest := []) (o := (some (.int (Int32.ofNat E.1)))) C hkc hks (met_al_size hok) (bq_pm [2, 0, 1] rfl rfl rfl) (bq_pm [1, 2, 0] rfl rfl rfl) (lw_V q983 q737 q738 q117 q739) (hd_J2_size) (Nat.le_of_ble_eq_true rfl) (Nat.le_of_ble_eq_true rfl) (va_recv hK hP (ci := 14) (q0 := 8) rfl rfl) rfl hl.1 rfl (Nat.le_of_ble_eq_true rfl) dX1_girls_7 hP hD hS (fun H locs hP hD hS => ?_)
  obtain rfl := Option.some.inj hf
  exact bq_iret C hr hP hD hS dX1_girls_10
set_option maxHeartbeats 4000000 in
theorem met_bl_fault {l : Launch} {D : va_G} {am : bqAm} {X vE sE : Nat → Nat} {d : Nat → ClassId} {ba ca ia ka na ta : Nat → Nat} {β : bqS} {r : Int32} (hok : bq_Ok am) (hamb : bq_Amb am X vE sE) (hf : bl_fault β = some r) : bq_M l yX1_fault cX1_fault 1 (some .int) 0 0 D bqCl (bqTy d) am [.ref (ba 0)] (List.flatten ([bbB d ba ca na ta ka ia β] : List va_W)) (some (.int r)) (List.flatten ([bbB d ba ca na ta ka ia β] : List va_W)) := by
  unfold bl_fault at hf
  refine bq_of hok (by decide +kernel) (Nat.le_of_ble_eq_true rfl) ?_
  intro p e s m below meth c A ls C hr hP hD hS hl
  have C0 := C
  obtain ⟨hx, hb, hown, hts, hml, hlocks, hA, hK, hm, hRf, hRl, hok⟩ := C
  have C := C0
  have hkc := Nat.zero_le 0
  have hks := Nat.zero_le 0
  have hl : lv_has ls 1 [(0, .ref (ba 0))] := hl
  refine lv_aload_n hx hb dX1_fault_0 rfl (lv_at hl 0 rfl) ?_
  refine gX1_get (own := RX1) (fs := (bbF ba ca na ta ka ia β)) (v := .int (β 0 8)) hx hb hts hown hK hP (q0 := 0) rfl 8 (Nat.le_of_ble_eq_true rfl) (hts _ q763) rfl dX1_fault_1 ?_
  obtain rfl := Option.some.inj hf
  exact bq_iret C hr hP hD hS dX1_fault_4
set_option maxHeartbeats 4000000 in
theorem met_bl_cellAt {l : Launch} {D : va_G} {am : bqAm} {X vE sE : Nat → Nat} {d : Nat → ClassId} {ba ca ia ka na ta : Nat → Nat} {dy fa : Option Nat} {β : bqS} {κ : bqS} {tg : Nat} {x1 : Int32} (hok : bq_Ok am) (hamb : bq_Amb am X vE sE) (hst : l.stackTraces = false) (hf : bl_cellAt β κ x1 = some tg) : bq_X l yX1_cellAt cX1_cellAt 2 none 7 110 1 6 D bqCl (bqTy d) am [.ref (ba 0), .int x1] (List.flatten ([bbB d ba ca na ta ka ia β, coB d ca dy fa κ] : List va_W)) tg none (List.flatten ([bbB d ba ca na ta ka ia β, coB d ca dy fa κ] : List va_W)) := by
  unfold bl_cellAt at hf
  refine bq_ofX hok (by decide +kernel) (Nat.le_of_ble_eq_true rfl) ?_
  intro p e s m below meth c A ls C hr hex hP hD hS hl
  have C0 := C
  obtain ⟨hx, hb, hown, hts, hml, hlocks, hA, hK, hm, hRf, hRl, hok⟩ := C
  have C := C0
  have hkc := Nat.zero_le 1
  have hks := Nat.zero_le 6
  have hl : lv_has ls 2 [(0, .ref (ba 0)), (1, .int x1)] := hl
  refine lv_iload_n hx hb dX1_cellAt_0 rfl (lv_at hl 1 rfl) ?_
  refine lv_if_lt (tgt := 16) hx hb dX1_cellAt_1 (by decide) (fun c1 => ?_) (fun c1 => ?_)
  · have hf := bq_ip c1 hf
    refine lv_iconst (v := (0 : Int32)) hx hb dX1_cellAt_16 (by decide) ?_
    obtain ⟨t2, hg, hf⟩ := bq_b1s hf
    refine bq_cSX (bs := [bbB d ba ca na ta ka ia β, coB d ca dy fa κ]) (bc := []) (br := [bbB d ba ca na ta ka ia β, coB d ca dy fa κ]) (bc' := []) (bs' := [bbB d ba ca na ta ka ia β, coB d ca dy fa κ]) (As := [.int (0 : Int32)]) (rest := []) (o := none) C (Nat.le_of_ble_eq_true rfl) (Nat.le_of_ble_eq_true rfl) (met_bl_there hok hamb hst hg) (bq_pm [0, 1] rfl rfl rfl) (bq_pm [0, 1] rfl rfl rfl) (lw_S q1394 q1395 q113 q1396) (hd_X1_there) (Nat.le_of_ble_eq_true rfl) (Nat.le_of_ble_eq_true rfl) rfl hl.1 rfl (Nat.le_of_ble_eq_true rfl) dX1_cellAt_17 hP hD hS (fun ht_ H locs hP hD hS => ?_) (fun ht_ => ?_)
    · have hf := bq_ip ht_ hf
      have hkc : 1 ≤ 1 := by decide
      have hks : 6 ≤ 6 := by decide
      obtain rfl := Option.some.inj hf
      exact bq_vretX C hr (by decide) (by decide) hP hD hS dX1_cellAt_20
    · have hf := bq_in ht_ hf
      obtain rfl := Option.some.inj hf
      exact bq_prop C hex ht_ (by decide) (by decide)
  · have hf := bq_in c1 hf
    refine lv_iload_n hx hb dX1_cellAt_4 rfl (lv_at hl 1 rfl) ?_
    refine lv_aload_n hx hb dX1_cellAt_5 rfl (lv_at hl 0 rfl) ?_
    obtain ⟨v3, hg, hf⟩ := bq_b1s hf
    refine bq_cV (bs := [bbB d ba ca na ta ka ia β, coB d ca dy fa κ]) (bc := [bbB d ba ca na ta ka ia β, coB d ca dy fa κ]) (br := []) (bc' := [bbB d ba ca na ta ka ia β, coB d ca dy fa κ]) (bs' := [bbB d ba ca na ta ka ia β, coB d ca dy fa κ]) (As := []) (rest := [.int x1]) (o := (some (.int v3))) C hkc hks (met_bl_cells hok hamb hg) (bq_pm [0, 1] rfl rfl rfl) (bq_pm [0, 1] rfl rfl rfl) (lw_V q990 q992 qs13 q113 q993) (hd_X1_cells) (Nat.le_of_ble_eq_true rfl) (Nat.le_of_ble_eq_true rfl) (va_recv hK hP (ci := 1) (q0 := 0) rfl rfl) rfl hl.1 rfl (Nat.le_of_ble_eq_true rfl) dX1_cellAt_6 hP hD hS (fun H locs hP hD hS => ?_)
    refine lv_icmp_ge (tgt := 16) hx hb dX1_cellAt_9 (by decide) (fun c4 => ?_) (fun c4 => ?_)
    · have hf := bq_ip c4 hf
      refine lv_iconst (v := (0 : Int32)) hx hb dX1_cellAt_16 (by decide) ?_
      obtain ⟨t5, hg, hf⟩ := bq_b1s hf
      refine bq_cSX (bs := [bbB d ba ca na ta ka ia β, coB d ca dy fa κ]) (bc := []) (br := [bbB d ba ca na ta ka ia β, coB d ca dy fa κ]) (bc' := []) (bs' := [bbB d ba ca na ta ka ia β, coB d ca dy fa κ]) (As := [.int (0 : Int32)]) (rest := []) (o := none) C (Nat.le_of_ble_eq_true rfl) (Nat.le_of_ble_eq_true rfl) (met_bl_there hok hamb hst hg) (bq_pm [0, 1] rfl rfl rfl) (bq_pm [0, 1] rfl rfl rfl) (lw_S q1394 q1395 q113 q1396) (hd_X1_there) (Nat.le_of_ble_eq_true rfl) (Nat.le_of_ble_eq_true rfl) rfl hl.1 rfl (Nat.le_of_ble_eq_true rfl) dX1_cellAt_17 hP hD hS (fun ht_ H locs hP hD hS => ?_) (fun ht_ => ?_)
      · have hf := bq_ip ht_ hf
        have hkc : 1 ≤ 1 := by decide
        have hks : 6 ≤ 6 := by decide
        obtain rfl := Option.some.inj hf
        exact bq_vretX C hr (by decide) (by decide) hP hD hS dX1_cellAt_20
      · have hf := bq_in ht_ hf
        obtain rfl := Option.some.inj hf
        exact bq_prop C hex ht_ (by decide) (by decide)
    · have hf := bq_in c4 hf
      refine lv_iconst (v := (1 : Int32)) hx hb dX1_cellAt_12 (by decide) ?_
      refine lv_goto (tgt := 17) hx hb dX1_cellAt_13 (by decide) ?_
      obtain ⟨t6, hg, hf⟩ := bq_b1s hf
      refine bq_cSX (bs := [bbB d ba ca na ta ka ia β, coB d ca dy fa κ]) (bc := []) (br := [bbB d ba ca na ta ka ia β, coB d ca dy fa κ]) (bc' := []) (bs' := [bbB d ba ca na ta ka ia β, coB d ca dy fa κ]) (As := [.int (1 : Int32)]) (rest := []) (o := none) C (Nat.le_of_ble_eq_true rfl) (Nat.le_of_ble_eq_true rfl) (met_bl_there hok hamb hst hg) (bq_pm [0, 1] rfl rfl rfl) (bq_pm [0, 1] rfl rfl rfl) (lw_S q1394 q1395 q113 q1396) (hd_X1_there) (Nat.le_of_ble_eq_true rfl) (Nat.le_of_ble_eq_true rfl) rfl hl.1 rfl (Nat.le_of_ble_eq_true rfl) dX1_cellAt_17 hP hD hS (fun ht_ H locs hP hD hS => ?_) (fun ht_ => ?_)
      · have hf := bq_ip ht_ hf
        have hkc : 1 ≤ 1 := by decide
        have hks : 6 ≤ 6 := by decide
        obtain rfl := Option.some.inj hf
        exact bq_vretX C hr (by decide) (by decide) hP hD hS dX1_cellAt_20
      · have hf := bq_in ht_ hf
        obtain rfl := Option.some.inj hf
        exact bq_prop C hex ht_ (by decide) (by decide)
set_option maxHeartbeats 4000000 in
theorem met_bl_girlAt {l : Launch} {D : va_G} {am : bqAm} {X vE sE : Nat → Nat} {d : Nat → ClassId} {ba ca ia ka na ta : Nat → Nat} {dy fa : Option Nat} {L : Nat} {mc : Int32} {E : bqE} {β : bqS} {κ : bqS} {tg : Nat} {x1 : Int32} (hok : bq_Ok am) (hamb : bq_Amb am X vE sE) (hst : l.stackTraces = false) (hL : E.1 ≤ L ∧ L < 2147483648) (hf : bl_girlAt E β κ x1 = some tg) : bq_X l yX1_girlAt cX1_girlAt 2 (some (.object "BlueBag$Girl")) 7 110 1 6 D bqCl (bqTy d) am [.ref (ba 0), .int x1] (List.flatten ([bbB d ba ca na ta ka ia β, coB d ca dy fa κ, lsB d ca L mc E.1, giB ca E.1 κ] : List va_W)) tg (some (.ref (ca (10 + x1.toNatClampNeg)))) (List.flatten ([bbB d ba ca na ta ka ia β, coB d ca dy fa κ, lsB d ca L mc E.1, giB ca E.1 κ] : List va_W)) := by
  unfold bl_girlAt at hf
  refine bq_ofX hok (by decide +kernel) (Nat.le_of_ble_eq_true rfl) ?_
  intro p e s m below meth c A ls C hr hex hP hD hS hl
  have C0 := C
  obtain ⟨hx, hb, hown, hts, hml, hlocks, hA, hK, hm, hRf, hRl, hok⟩ := C
  have C := C0
  have hkc := Nat.zero_le 1
  have hks := Nat.zero_le 6
  have hl : lv_has ls 2 [(0, .ref (ba 0)), (1, .int x1)] := hl
  refine lv_iload_n hx hb dX1_girlAt_0 rfl (lv_at hl 1 rfl) ?_
  refine lv_if_lt (tgt := 16) hx hb dX1_girlAt_1 (by decide) (fun c1 => ?_) (fun c1 => ?_)
  · have hf := bq_ip c1 hf
    refine lv_iconst (v := (0 : Int32)) hx hb dX1_girlAt_16 (by decide) ?_
    obtain ⟨t2, hg, hf⟩ := bq_b1s hf
    refine bq_cSX (bs := [bbB d ba ca na ta ka ia β, coB d ca dy fa κ, lsB d ca L mc E.1, giB ca E.1 κ]) (bc := []) (br := [bbB d ba ca na ta ka ia β, coB d ca dy fa κ, lsB d ca L mc E.1, giB ca E.1 κ]) (bc' := []) (bs' := [bbB d ba ca na ta ka ia β, coB d ca dy fa κ, lsB d ca L mc E.1, giB ca E.1 κ]) (As := [.int (0 : Int32)]) (rest := []) (o := none) C (Nat.le_of_ble_eq_true rfl) (Nat.le_of_ble_eq_true rfl) (met_bl_there hok hamb hst hg) (bq_pm [0, 1, 2, 3] rfl rfl rfl) (bq_pm [0, 1, 2, 3] rfl rfl rfl) (lw_S q1394 q1395 q113 q1396) (hd_X1_there) (Nat.le_of_ble_eq_true rfl) (Nat.le_of_ble_eq_true rfl) rfl hl.1 rfl (Nat.le_of_ble_eq_true rfl) dX1_girlAt_17 hP hD hS (fun ht_ H locs hP hD hS => ?_) (fun ht_ => ?_)
    · have hf := bq_ip ht_ hf
      have hkc : 1 ≤ 1 := by decide
      have hks : 6 ≤ 6 := by decide
      refine lv_aload_n hx hb dX1_girlAt_20 rfl (lv_at hl 0 rfl) ?_
      refine gX1_get (own := RX1) (fs := (bbF ba ca na ta ka ia β)) (v := .ref (ca 0)) hx hb hts hown hK hP (q0 := 0) rfl 0 (Nat.le_of_ble_eq_true rfl) (hts _ q755) rfl dX1_girlAt_21 ?_
      refine gX2_getN (own := RX1) (host := "BlueBag") (fs := (coF ca dy fa κ)) (v := .ref (ca 2)) hx hb hts hown hK hP (q0 := 6) rfl 7 (Nat.le_of_ble_eq_true rfl) (bq_nF hamb hm 1 rfl) rfl dX1_girlAt_24 ?_
      refine lv_iload_n hx hb dX1_girlAt_27 rfl (lv_at hl 1 rfl) ?_
      obtain ⟨h3, hf⟩ := bq_cks hf
      refine bq_cV (bs := [bbB d ba ca na ta ka ia β, coB d ca dy fa κ, lsB d ca L mc E.1, giB ca E.1 κ]) (bc := [lsB d ca L mc E.1]) (br := [bbB d ba ca na ta ka ia β, coB d ca dy fa κ, giB ca E.1 κ]) (bc' := [lsB d ca L mc E.1]) (bs' := [bbB d ba ca na ta ka ia β, coB d ca dy fa κ, lsB d ca L mc E.1, giB ca E.1 κ]) (As := [.int x1]) (rest := []) (o := (some (.ref (ca (10 + x1.toNatClampNeg))))) C hkc hks (met_al_get hok hL h3) (bq_pm [2, 0, 1, 3] rfl rfl rfl) (bq_pm [1, 2, 0, 3] rfl rfl rfl) (lw_V q953 q741 q742 q117 q743) (hd_J2_get) (Nat.le_of_ble_eq_true rfl) (Nat.le_of_ble_eq_true rfl) (va_recv hK hP (ci := 14) (q0 := 8) rfl rfl) rfl hl.1 rfl (Nat.le_of_ble_eq_true rfl) dX1_girlAt_28 hP hD hS (fun H locs hP hD hS => ?_)
      refine gi_cast (κ := κ) hx hb hown (hts _ q1448) hamb hm hK hP (fun q hq => List.mem_flatten.mpr ⟨giB ca E.1 κ, by simp, hq⟩) (bq_inlt h3) dX1_girlAt_31 ?_
      obtain rfl := Option.some.inj hf
      exact bq_aretX C hr (by decide) (by decide) hP hD hS dX1_girlAt_34
    · have hf := bq_in ht_ hf
      obtain rfl := Option.some.inj hf
      exact bq_prop C hex ht_ (by decide) (by decide)
  · have hf := bq_in c1 hf
    refine lv_iload_n hx hb dX1_girlAt_4 rfl (lv_at hl 1 rfl) ?_
    refine lv_aload_n hx hb dX1_girlAt_5 rfl (lv_at hl 0 rfl) ?_
    obtain ⟨v4, hg, hf⟩ := bq_b1s hf
    refine bq_cV (bs := [bbB d ba ca na ta ka ia β, coB d ca dy fa κ, lsB d ca L mc E.1, giB ca E.1 κ]) (bc := [bbB d ba ca na ta ka ia β, coB d ca dy fa κ, lsB d ca L mc E.1]) (br := [giB ca E.1 κ]) (bc' := [bbB d ba ca na ta ka ia β, coB d ca dy fa κ, lsB d ca L mc E.1]) (bs' := [bbB d ba ca na ta ka ia β, coB d ca dy fa κ, lsB d ca L mc E.1, giB ca E.1 κ]) (As := []) (rest := [.int x1]) (o := (some (.int v4))) C hkc hks (met_bl_girls hok hamb hL hg) (bq_pm [0, 1, 2, 3] rfl rfl rfl) (bq_pm [0, 1, 2, 3] rfl rfl rfl) (lw_V q979 q981 qs12 q113 q982) (hd_X1_girls) (Nat.le_of_ble_eq_true rfl) (Nat.le_of_ble_eq_true rfl) (va_recv hK hP (ci := 1) (q0 := 0) rfl rfl) rfl hl.1 rfl (Nat.le_of_ble_eq_true rfl) dX1_girlAt_6 hP hD hS (fun H locs hP hD hS => ?_)
    refine lv_icmp_ge (tgt := 16) hx hb dX1_girlAt_9 (by decide) (fun c5 => ?_) (fun c5 => ?_)
    · have hf := bq_ip c5 hf
      refine lv_iconst (v := (0 : Int32)) hx hb dX1_girlAt_16 (by decide) ?_
      obtain ⟨t6, hg, hf⟩ := bq_b1s hf
      refine bq_cSX (bs := [bbB d ba ca na ta ka ia β, coB d ca dy fa κ, lsB d ca L mc E.1, giB ca E.1 κ]) (bc := []) (br := [bbB d ba ca na ta ka ia β, coB d ca dy fa κ, lsB d ca L mc E.1, giB ca E.1 κ]) (bc' := []) (bs' := [bbB d ba ca na ta ka ia β, coB d ca dy fa κ, lsB d ca L mc E.1, giB ca E.1 κ]) (As := [.int (0 : Int32)]) (rest := []) (o := none) C (Nat.le_of_ble_eq_true rfl) (Nat.le_of_ble_eq_true rfl) (met_bl_there hok hamb hst hg) (bq_pm [0, 1, 2, 3] rfl rfl rfl) (bq_pm [0, 1, 2, 3] rfl rfl rfl) (lw_S q1394 q1395 q113 q1396) (hd_X1_there) (Nat.le_of_ble_eq_true rfl) (Nat.le_of_ble_eq_true rfl) rfl hl.1 rfl (Nat.le_of_ble_eq_true rfl) dX1_girlAt_17 hP hD hS (fun ht_ H locs hP hD hS => ?_) (fun ht_ => ?_)
      · have hf := bq_ip ht_ hf
        have hkc : 1 ≤ 1 := by decide
        have hks : 6 ≤ 6 := by decide
        refine lv_aload_n hx hb dX1_girlAt_20 rfl (lv_at hl 0 rfl) ?_
        refine gX1_get (own := RX1) (fs := (bbF ba ca na ta ka ia β)) (v := .ref (ca 0)) hx hb hts hown hK hP (q0 := 0) rfl 0 (Nat.le_of_ble_eq_true rfl) (hts _ q755) rfl dX1_girlAt_21 ?_
        refine gX2_getN (own := RX1) (host := "BlueBag") (fs := (coF ca dy fa κ)) (v := .ref (ca 2)) hx hb hts hown hK hP (q0 := 6) rfl 7 (Nat.le_of_ble_eq_true rfl) (bq_nF hamb hm 1 rfl) rfl dX1_girlAt_24 ?_
        refine lv_iload_n hx hb dX1_girlAt_27 rfl (lv_at hl 1 rfl) ?_
        obtain ⟨h7, hf⟩ := bq_cks hf
        refine bq_cV (bs := [bbB d ba ca na ta ka ia β, coB d ca dy fa κ, lsB d ca L mc E.1, giB ca E.1 κ]) (bc := [lsB d ca L mc E.1]) (br := [bbB d ba ca na ta ka ia β, coB d ca dy fa κ, giB ca E.1 κ]) (bc' := [lsB d ca L mc E.1]) (bs' := [bbB d ba ca na ta ka ia β, coB d ca dy fa κ, lsB d ca L mc E.1, giB ca E.1 κ]) (As := [.int x1]) (rest := []) (o := (some (.ref (ca (10 + x1.toNatClampNeg))))) C hkc hks (met_al_get hok hL h7) (bq_pm [2, 0, 1, 3] rfl rfl rfl) (bq_pm [1, 2, 0, 3] rfl rfl rfl) (lw_V q953 q741 q742 q117 q743) (hd_J2_get) (Nat.le_of_ble_eq_true rfl) (Nat.le_of_ble_eq_true rfl) (va_recv hK hP (ci := 14) (q0 := 8) rfl rfl) rfl hl.1 rfl (Nat.le_of_ble_eq_true rfl) dX1_girlAt_28 hP hD hS (fun H locs hP hD hS => ?_)
        refine gi_cast (κ := κ) hx hb hown (hts _ q1448) hamb hm hK hP (fun q hq => List.mem_flatten.mpr ⟨giB ca E.1 κ, by simp, hq⟩) (bq_inlt h7) dX1_girlAt_31 ?_
        obtain rfl := Option.some.inj hf
        exact bq_aretX C hr (by decide) (by decide) hP hD hS dX1_girlAt_34
      · have hf := bq_in ht_ hf
        obtain rfl := Option.some.inj hf
        exact bq_prop C hex ht_ (by decide) (by decide)
    · have hf := bq_in c5 hf
      refine lv_iconst (v := (1 : Int32)) hx hb dX1_girlAt_12 (by decide) ?_
      refine lv_goto (tgt := 17) hx hb dX1_girlAt_13 (by decide) ?_
      obtain ⟨t8, hg, hf⟩ := bq_b1s hf
      refine bq_cSX (bs := [bbB d ba ca na ta ka ia β, coB d ca dy fa κ, lsB d ca L mc E.1, giB ca E.1 κ]) (bc := []) (br := [bbB d ba ca na ta ka ia β, coB d ca dy fa κ, lsB d ca L mc E.1, giB ca E.1 κ]) (bc' := []) (bs' := [bbB d ba ca na ta ka ia β, coB d ca dy fa κ, lsB d ca L mc E.1, giB ca E.1 κ]) (As := [.int (1 : Int32)]) (rest := []) (o := none) C (Nat.le_of_ble_eq_true rfl) (Nat.le_of_ble_eq_true rfl) (met_bl_there hok hamb hst hg) (bq_pm [0, 1, 2, 3] rfl rfl rfl) (bq_pm [0, 1, 2, 3] rfl rfl rfl) (lw_S q1394 q1395 q113 q1396) (hd_X1_there) (Nat.le_of_ble_eq_true rfl) (Nat.le_of_ble_eq_true rfl) rfl hl.1 rfl (Nat.le_of_ble_eq_true rfl) dX1_girlAt_17 hP hD hS (fun ht_ H locs hP hD hS => ?_) (fun ht_ => ?_)
      · have hf := bq_ip ht_ hf
        have hkc : 1 ≤ 1 := by decide
        have hks : 6 ≤ 6 := by decide
        refine lv_aload_n hx hb dX1_girlAt_20 rfl (lv_at hl 0 rfl) ?_
        refine gX1_get (own := RX1) (fs := (bbF ba ca na ta ka ia β)) (v := .ref (ca 0)) hx hb hts hown hK hP (q0 := 0) rfl 0 (Nat.le_of_ble_eq_true rfl) (hts _ q755) rfl dX1_girlAt_21 ?_
        refine gX2_getN (own := RX1) (host := "BlueBag") (fs := (coF ca dy fa κ)) (v := .ref (ca 2)) hx hb hts hown hK hP (q0 := 6) rfl 7 (Nat.le_of_ble_eq_true rfl) (bq_nF hamb hm 1 rfl) rfl dX1_girlAt_24 ?_
        refine lv_iload_n hx hb dX1_girlAt_27 rfl (lv_at hl 1 rfl) ?_
        obtain ⟨h9, hf⟩ := bq_cks hf
        refine bq_cV (bs := [bbB d ba ca na ta ka ia β, coB d ca dy fa κ, lsB d ca L mc E.1, giB ca E.1 κ]) (bc := [lsB d ca L mc E.1]) (br := [bbB d ba ca na ta ka ia β, coB d ca dy fa κ, giB ca E.1 κ]) (bc' := [lsB d ca L mc E.1]) (bs' := [bbB d ba ca na ta ka ia β, coB d ca dy fa κ, lsB d ca L mc E.1, giB ca E.1 κ]) (As := [.int x1]) (rest := []) (o := (some (.ref (ca (10 + x1.toNatClampNeg))))) C hkc hks (met_al_get hok hL h9) (bq_pm [2, 0, 1, 3] rfl rfl rfl) (bq_pm [1, 2, 0, 3] rfl rfl rfl) (lw_V q953 q741 q742 q117 q743) (hd_J2_get) (Nat.le_of_ble_eq_true rfl) (Nat.le_of_ble_eq_true rfl) (va_recv hK hP (ci := 14) (q0 := 8) rfl rfl) rfl hl.1 rfl (Nat.le_of_ble_eq_true rfl) dX1_girlAt_28 hP hD hS (fun H locs hP hD hS => ?_)
        refine gi_cast (κ := κ) hx hb hown (hts _ q1448) hamb hm hK hP (fun q hq => List.mem_flatten.mpr ⟨giB ca E.1 κ, by simp, hq⟩) (bq_inlt h9) dX1_girlAt_31 ?_
        obtain rfl := Option.some.inj hf
        exact bq_aretX C hr (by decide) (by decide) hP hD hS dX1_girlAt_34
      · have hf := bq_in ht_ hf
        obtain rfl := Option.some.inj hf
        exact bq_prop C hex ht_ (by decide) (by decide)
set_option maxHeartbeats 4000000 in
theorem wk_bl_besideOf_L4 {p : Program} {e : Env} {R : Room} {s : State} {m : MethodId} {args : Array Value} {below : List Frame} {meth : Method} {c : Code} {A : Nat → Prop} {kc ks : Nat} {Q : State → Prop} {l : Launch} {D : va_G} {am : bqAm} {X vE sE : Nat → Nat} {d : Nat → ClassId} {ba ca ia ka na ta : Nat → Nat} {dy fa : Option Nat} {F : Nat} (C : bq_C p R s m args meth c A D bqCl (bqTy d) am cX1_besideOf 4 RX1 2 82) (hkc : kc ≤ R.cells) (hks : ks ≤ R.slots) (hamb : bq_Amb am X vE sE)  {β : bqS} {κ : bqS} :
    ∀ (k : Nat) (x1 : Int32) (x2 : Int32) (x3 : Int32) (y2 : Int32) (H : Heap) (locs : List Loc), bl_besideOf_L4 F β κ k x1 x2 x3 = some y2 → va_P D bqCl (List.flatten ([bbB d ba ca na ta ka ia β, coB d ca dy fa κ] : List va_W)) H → va_D A (List.flatten ([bbB d ba ca na ta ka ia β, coB d ca dy fa κ] : List va_W)) → va_S A s.heap H locs → ∀ ls : Array Slot, lv_has ls 4 [(0, .ref (ba 0)), (1, .int x1), (2, .int x2), (3, .int x3)] →
      (∀ (H : Heap) (locs : List Loc), va_P D bqCl (List.flatten ([bbB d ba ca na ta ka ia β, coB d ca dy fa κ] : List va_W)) H → va_D A (List.flatten ([bbB d ba ca na ta ka ia β, coB d ca dy fa κ] : List va_W)) → va_S A s.heap H locs → ∀ ls : Array Slot, lv_has ls 4 [(2, .int y2)] → W p l e R s m args below meth c H locs kc ks Q (F0 m 37 ls [])) →
      W p l e R s m args below meth c H locs kc ks Q (F0 m 4 ls []) := by
  have C0 := C
  obtain ⟨hx, hb, hown, hts, hml, hlocks, hA, hK, hm, hRf, hRl, hok⟩ := C
  have C := C0
  intro k
  induction k with
  | zero => intro x1 x2 x3 y2 H locs hf
            cases hf
  | succ k ih =>
    intro x1 x2 x3 y2 H locs hf hP hD hS ls hl hk0
    rw [bl_besideOf_L4] at hf
    refine lv_iload_n hx hb dX1_besideOf_4 rfl (lv_at hl 3 rfl) ?_
    refine lv_aload_n hx hb dX1_besideOf_5 rfl (lv_at hl 0 rfl) ?_
    obtain ⟨v1, hg, hf⟩ := bq_b1s hf
    refine bq_cV (bs := [bbB d ba ca na ta ka ia β, coB d ca dy fa κ]) (bc := [bbB d ba ca na ta ka ia β, coB d ca dy fa κ]) (br := []) (bc' := [bbB d ba ca na ta ka ia β, coB d ca dy fa κ]) (bs' := [bbB d ba ca na ta ka ia β, coB d ca dy fa κ]) (As := []) (rest := [.int x3]) (o := (some (.int v1))) C hkc hks (met_bl_cells hok hamb hg) (bq_pm [0, 1] rfl rfl rfl) (bq_pm [0, 1] rfl rfl rfl) (lw_V q990 q992 qs13 q113 q993) (hd_X1_cells) (Nat.le_of_ble_eq_true rfl) (Nat.le_of_ble_eq_true rfl) (va_recv hK hP (ci := 1) (q0 := 0) rfl rfl) rfl hl.1 rfl (Nat.le_of_ble_eq_true rfl) dX1_besideOf_6 hP hD hS (fun H locs hP hD hS => ?_)
    refine lv_icmp_ge (tgt := 37) hx hb dX1_besideOf_9 (by decide) (fun c2 => ?_) (fun c2 => ?_)
    · have hf := bq_ip c2 hf
      obtain rfl := Option.some.inj hf
      exact hk0 _ _ hP hD hS ls (lv_sub hl [2] rfl)
    · have hf := bq_in c2 hf
      refine lv_aload_n hx hb dX1_besideOf_12 rfl (lv_at hl 0 rfl) ?_
      refine gX1_get (own := RX1) (fs := (bbF ba ca na ta ka ia β)) (v := .ref (ca 0)) hx hb hts hown hK hP (q0 := 0) rfl 0 (Nat.le_of_ble_eq_true rfl) (hts _ q755) rfl dX1_besideOf_13 ?_
      refine lv_iload_n hx hb dX1_besideOf_16 rfl (lv_at hl 1 rfl) ?_
      refine lv_iload_n hx hb dX1_besideOf_17 rfl (lv_at hl 3 rfl) ?_
      obtain ⟨v3, hg, hf⟩ := bq_b1s hf
      refine bq_cV (bs := [bbB d ba ca na ta ka ia β, coB d ca dy fa κ]) (bc := [coB d ca dy fa κ]) (br := [bbB d ba ca na ta ka ia β]) (bc' := [coB d ca dy fa κ]) (bs' := [bbB d ba ca na ta ka ia β, coB d ca dy fa κ]) (As := [.int x1, .int x3]) (rest := []) (o := (some (.int v3))) C hkc hks (met_co_steps hok hamb hg) (bq_pm [1, 0] rfl rfl rfl) (bq_pm [1, 0] rfl rfl rfl) (lw_V q1431 q869 q870 q114 q871) (hd_X2_steps) (Nat.le_of_ble_eq_true rfl) (Nat.le_of_ble_eq_true rfl) (va_recv hK hP (ci := 2) (q0 := 6) rfl rfl) rfl hl.1 rfl (Nat.le_of_ble_eq_true rfl) dX1_besideOf_18 hP hD hS (fun H locs hP hD hS => ?_)
      refine lv_iconst (v := (1 : Int32)) hx hb dX1_besideOf_21 (by decide) ?_
      refine lv_icmp_ne (tgt := 31) hx hb dX1_besideOf_22 (by decide) (fun c4 => ?_) (fun c4 => ?_)
      · have hf := bq_in c4 hf
        obtain ⟨v5, ev5, hf⟩ := bq_lts hf
        refine lv_iinc (v := v5) (lv' := [(3, .int v5), (0, .ref (ba 0)), (1, .int x1), (2, .int x2)]) hx hb dX1_besideOf_31 hl (k := 3) rfl (bq_inc (by decide) ev5) (by decide) rfl (fun ls hl => ?_)
        refine lv_goto (tgt := 4) hx hb dX1_besideOf_34 (by decide) ?_
        exact ih _ _ _ _ _ _ hf hP hD hS ls (lv_sub hl [1, 2, 3, 0] rfl) hk0
      · have hf := bq_ip c4 hf
        refine lv_iload_n hx hb dX1_besideOf_25 rfl (lv_at hl 2 rfl) ?_
        refine lv_iconst (v := (1 : Int32)) hx hb dX1_besideOf_26 (by decide) ?_
        refine lv_iload_n hx hb dX1_besideOf_27 rfl (lv_at hl 3 rfl) ?_
        refine lv_ishl hx hb dX1_besideOf_28 ?_
        refine lv_ior hx hb dX1_besideOf_29 ?_
        obtain ⟨v6, ev6, hf⟩ := bq_lts hf
        refine bq_tope ev6 ?_
        refine lv_istore_n (lv' := [(2, .int v6), (0, .ref (ba 0)), (1, .int x1), (3, .int x3)]) hx hb dX1_besideOf_30 rfl hl (by decide) rfl (fun ls hl => ?_)
        obtain ⟨v7, ev7, hf⟩ := bq_lts hf
        refine lv_iinc (v := v7) (lv' := [(3, .int v7), (2, .int v6), (0, .ref (ba 0)), (1, .int x1)]) hx hb dX1_besideOf_31 hl (k := 3) rfl (bq_inc (by decide) ev7) (by decide) rfl (fun ls hl => ?_)
        refine lv_goto (tgt := 4) hx hb dX1_besideOf_34 (by decide) ?_
        exact ih _ _ _ _ _ _ hf hP hD hS ls (lv_sub hl [2, 3, 1, 0] rfl) hk0
set_option maxHeartbeats 4000000 in
theorem met_bl_besideOf {l : Launch} {D : va_G} {am : bqAm} {X vE sE : Nat → Nat} {d : Nat → ClassId} {ba ca ia ka na ta : Nat → Nat} {dy fa : Option Nat} {F : Nat} {β : bqS} {κ : bqS} {r : Int32} {x1 : Int32} (hok : bq_Ok am) (hamb : bq_Amb am X vE sE) (hf : bl_besideOf F β κ x1 = some r) : bq_M l yX1_besideOf cX1_besideOf 4 (some .int) 2 82 D bqCl (bqTy d) am [.ref (ba 0), .int x1] (List.flatten ([bbB d ba ca na ta ka ia β, coB d ca dy fa κ] : List va_W)) (some (.int r)) (List.flatten ([bbB d ba ca na ta ka ia β, coB d ca dy fa κ] : List va_W)) := by
  unfold bl_besideOf at hf
  refine bq_of hok (by decide +kernel) (Nat.le_of_ble_eq_true rfl) ?_
  intro p e s m below meth c A ls C hr hP hD hS hl
  have C0 := C
  obtain ⟨hx, hb, hown, hts, hml, hlocks, hA, hK, hm, hRf, hRl, hok⟩ := C
  have C := C0
  have hkc := Nat.zero_le 0
  have hks := Nat.zero_le 0
  have hl : lv_has ls 4 [(0, .ref (ba 0)), (1, .int x1)] := hl
  refine lv_iconst (v := (0 : Int32)) hx hb dX1_besideOf_0 (by decide) ?_
  refine lv_istore_n (lv' := [(2, .int (0 : Int32)), (0, .ref (ba 0)), (1, .int x1)]) hx hb dX1_besideOf_1 rfl hl (by decide) rfl (fun ls hl => ?_)
  refine lv_iconst (v := (0 : Int32)) hx hb dX1_besideOf_2 (by decide) ?_
  refine lv_istore_n (lv' := [(3, .int (0 : Int32)), (2, .int (0 : Int32)), (0, .ref (ba 0)), (1, .int x1)]) hx hb dX1_besideOf_3 rfl hl (by decide) rfl (fun ls hl => ?_)
  obtain ⟨v8, hg, hf⟩ := bq_b1s hf
  refine wk_bl_besideOf_L4 C hkc hks hamb _ _ _ _ _ _ _ hg hP hD hS ls (lv_sub hl [2, 3, 1, 0] rfl) ?_
  · intro H locs hP hD hS ls hl
    refine lv_iload_n hx hb dX1_besideOf_37 rfl (lv_at hl 0 rfl) ?_
    obtain rfl := Option.some.inj hf
    exact bq_iret C hr hP hD hS dX1_besideOf_38
set_option maxHeartbeats 4000000 in
theorem wk_bl_patchOf_L43 {p : Program} {e : Env} {R : Room} {s : State} {m : MethodId} {args : Array Value} {below : List Frame} {meth : Method} {c : Code} {A : Nat → Prop} {kc ks : Nat} {Q : State → Prop} {l : Launch} {D : va_G} {am : bqAm} {X vE sE : Nat → Nat} {d : Nat → ClassId} {ba ca ia ka na ta : Nat → Nat} {dy fa : Option Nat} {F : Nat} (C : bq_C p R s m args meth c A D bqCl (bqTy d) am cX1_patchOf 7 RX1 2 82) (hkc : kc ≤ R.cells) (hks : ks ≤ R.slots) (hamb : bq_Amb am X vE sE)  {β : bqS} {σ : bqS} {κ : bqS} {x4 : Int32} :
    ∀ (k : Nat) (x2 : Int32) (x3 : Int32) (x5 : Int32) (x6 : Int32) (y3 : Int32) (H : Heap) (locs : List Loc), bl_patchOf_L43 F β σ κ k x2 x3 x5 x6 = some y3 → va_P D bqCl (List.flatten ([bbB d ba ca na ta ka ia β, stB d na σ, coB d ca dy fa κ] : List va_W)) H → va_D A (List.flatten ([bbB d ba ca na ta ka ia β, stB d na σ, coB d ca dy fa κ] : List va_W)) → va_S A s.heap H locs → ∀ ls : Array Slot, lv_has ls 7 [(0, .ref (ba 0)), (2, .int x2), (3, .int x3), (4, .int x4), (5, .int x5), (6, .int x6)] →
      (∀ (H : Heap) (locs : List Loc), va_P D bqCl (List.flatten ([bbB d ba ca na ta ka ia β, stB d na σ, coB d ca dy fa κ] : List va_W)) H → va_D A (List.flatten ([bbB d ba ca na ta ka ia β, stB d na σ, coB d ca dy fa κ] : List va_W)) → va_S A s.heap H locs → ∀ ls : Array Slot, lv_has ls 7 [(0, .ref (ba 0)), (2, .int x2), (3, .int y3), (4, .int x4), (5, .int x5)] → W p l e R s m args below meth c H locs kc ks Q (F0 m 108 ls [])) →
      W p l e R s m args below meth c H locs kc ks Q (F0 m 43 ls []) := by
  have C0 := C
  obtain ⟨hx, hb, hown, hts, hml, hlocks, hA, hK, hm, hRf, hRl, hok⟩ := C
  have C := C0
  intro k
  induction k with
  | zero => intro x2 x3 x5 x6 y3 H locs hf
            cases hf
  | succ k ih =>
    intro x2 x3 x5 x6 y3 H locs hf hP hD hS ls hl hk0
    rw [bl_patchOf_L43] at hf
    refine lv_iload hx hb dX1_patchOf_43 (lv_at hl 5 rfl) ?_
    refine lv_aload_n hx hb dX1_patchOf_45 rfl (lv_at hl 0 rfl) ?_
    obtain ⟨v7, hg, hf⟩ := bq_b1s hf
    refine bq_cV (bs := [bbB d ba ca na ta ka ia β, stB d na σ, coB d ca dy fa κ]) (bc := [bbB d ba ca na ta ka ia β, coB d ca dy fa κ]) (br := [stB d na σ]) (bc' := [bbB d ba ca na ta ka ia β, coB d ca dy fa κ]) (bs' := [bbB d ba ca na ta ka ia β, stB d na σ, coB d ca dy fa κ]) (As := []) (rest := [.int x6]) (o := (some (.int v7))) C hkc hks (met_bl_cells hok hamb hg) (bq_pm [0, 2, 1] rfl rfl rfl) (bq_pm [0, 2, 1] rfl rfl rfl) (lw_V q990 q992 qs13 q113 q993) (hd_X1_cells) (Nat.le_of_ble_eq_true rfl) (Nat.le_of_ble_eq_true rfl) (va_recv hK hP (ci := 1) (q0 := 0) rfl rfl) rfl hl.1 rfl (Nat.le_of_ble_eq_true rfl) dX1_patchOf_46 hP hD hS (fun H locs hP hD hS => ?_)
    refine lv_icmp_ge (tgt := 108) hx hb dX1_patchOf_49 (by decide) (fun c8 => ?_) (fun c8 => ?_)
    · have hf := bq_ip c8 hf
      obtain rfl := Option.some.inj hf
      exact hk0 _ _ hP hD hS ls (lv_sub hl [0, 1, 2, 3, 4] rfl)
    · have hf := bq_in c8 hf
      refine lv_aload_n hx hb dX1_patchOf_52 rfl (lv_at hl 0 rfl) ?_
      refine gX1_get (own := RX1) (fs := (bbF ba ca na ta ka ia β)) (v := .ref (ca 0)) hx hb hts hown hK hP (q0 := 0) rfl 0 (Nat.le_of_ble_eq_true rfl) (hts _ q755) rfl dX1_patchOf_53 ?_
      refine lv_iload hx hb dX1_patchOf_56 (lv_at hl 4 rfl) ?_
      refine lv_iload hx hb dX1_patchOf_58 (lv_at hl 5 rfl) ?_
      obtain ⟨v9, hg, hf⟩ := bq_b1s hf
      refine bq_cV (bs := [bbB d ba ca na ta ka ia β, stB d na σ, coB d ca dy fa κ]) (bc := [coB d ca dy fa κ]) (br := [bbB d ba ca na ta ka ia β, stB d na σ]) (bc' := [coB d ca dy fa κ]) (bs' := [bbB d ba ca na ta ka ia β, stB d na σ, coB d ca dy fa κ]) (As := [.int x5, .int x6]) (rest := []) (o := (some (.int v9))) C hkc hks (met_co_steps hok hamb hg) (bq_pm [2, 0, 1] rfl rfl rfl) (bq_pm [1, 2, 0] rfl rfl rfl) (lw_V q1431 q869 q870 q114 q871) (hd_X2_steps) (Nat.le_of_ble_eq_true rfl) (Nat.le_of_ble_eq_true rfl) (va_recv hK hP (ci := 2) (q0 := 11) rfl rfl) rfl hl.1 rfl (Nat.le_of_ble_eq_true rfl) dX1_patchOf_60 hP hD hS (fun H locs hP hD hS => ?_)
      refine lv_iconst (v := (1 : Int32)) hx hb dX1_patchOf_63 (by decide) ?_
      refine lv_icmp_ne (tgt := 102) hx hb dX1_patchOf_64 (by decide) (fun c10 => ?_) (fun c10 => ?_)
      · have hf := bq_in c10 hf
        obtain ⟨v11, ev11, hf⟩ := bq_lts hf
        refine lv_iinc (v := v11) (lv' := [(6, .int v11), (0, .ref (ba 0)), (2, .int x2), (3, .int x3), (4, .int x4), (5, .int x5)]) hx hb dX1_patchOf_102 hl (k := 5) rfl (bq_inc (by decide) ev11) (by decide) rfl (fun ls hl => ?_)
        refine lv_goto (tgt := 43) hx hb dX1_patchOf_105 (by decide) ?_
        exact ih _ _ _ _ _ _ _ hf hP hD hS ls (lv_sub hl [1, 2, 3, 4, 5, 0] rfl) hk0
      · have hf := bq_ip c10 hf
        refine lv_aload_n hx hb dX1_patchOf_67 rfl (lv_at hl 0 rfl) ?_
        refine gX1_get (own := RX1) (fs := (bbF ba ca na ta ka ia β)) (v := .ref (na 0)) hx hb hts hown hK hP (q0 := 0) rfl 3 (Nat.le_of_ble_eq_true rfl) (hts _ q758) rfl dX1_patchOf_68 ?_
        refine gX6_getN (own := RX1) (host := "BlueBag") (fs := (stF na σ)) (v := .ref (na 1)) hx hb hts hown hK hP (q0 := 6) rfl 0 (Nat.le_of_ble_eq_true rfl) (bq_nF hamb hm 15 rfl) rfl dX1_patchOf_71 ?_
        refine lv_iload hx hb dX1_patchOf_74 (lv_at hl 4 rfl) ?_
        obtain ⟨h12, hf⟩ := bq_cks hf
        refine bq_ild (j := x5.toNatClampNeg) (f := σ 1) (q := 0) hx hb hK hP 7 rfl rfl h12 rfl dX1_patchOf_76 ?_
        refine lv_aload_n hx hb dX1_patchOf_77 rfl (lv_at hl 0 rfl) ?_
        refine gX1_get (own := RX1) (fs := (bbF ba ca na ta ka ia β)) (v := .ref (na 0)) hx hb hts hown hK hP (q0 := 0) rfl 3 (Nat.le_of_ble_eq_true rfl) (hts _ q758) rfl dX1_patchOf_78 ?_
        refine gX6_getN (own := RX1) (host := "BlueBag") (fs := (stF na σ)) (v := .ref (na 1)) hx hb hts hown hK hP (q0 := 6) rfl 0 (Nat.le_of_ble_eq_true rfl) (bq_nF hamb hm 15 rfl) rfl dX1_patchOf_81 ?_
        refine lv_iload hx hb dX1_patchOf_84 (lv_at hl 5 rfl) ?_
        obtain ⟨h13, hf⟩ := bq_cks hf
        refine bq_ild (j := x6.toNatClampNeg) (f := σ 1) (q := 0) hx hb hK hP 7 rfl rfl h13 rfl dX1_patchOf_86 ?_
        refine lv_isub hx hb dX1_patchOf_87 ?_
        refine va_mabs hx hb (hml.trans hl.1.symm) hown (hts _ q1436) (hts _ q873) (hts _ q127) (hts _ q874) (Nat.le_trans (Nat.le_of_ble_eq_true rfl) hRf) (Nat.le_trans (Nat.le_of_ble_eq_true rfl) hRl) hkc hks dX1_patchOf_88 ?_
        refine lv_iload_n hx hb dX1_patchOf_91 rfl (lv_at hl 1 rfl) ?_
        refine lv_icmp_gt (tgt := 102) hx hb dX1_patchOf_92 (by decide) (fun c14 => ?_) (fun c14 => ?_)
        · have hf := bq_ip c14 hf
          obtain ⟨v15, ev15, hf⟩ := bq_lts hf
          refine lv_iinc (v := v15) (lv' := [(6, .int v15), (0, .ref (ba 0)), (2, .int x2), (3, .int x3), (4, .int x4), (5, .int x5)]) hx hb dX1_patchOf_102 hl (k := 5) rfl (bq_inc (by decide) ev15) (by decide) rfl (fun ls hl => ?_)
          refine lv_goto (tgt := 43) hx hb dX1_patchOf_105 (by decide) ?_
          exact ih _ _ _ _ _ _ _ hf hP hD hS ls (lv_sub hl [1, 2, 3, 4, 5, 0] rfl) hk0
        · have hf := bq_in c14 hf
          refine lv_iload_n hx hb dX1_patchOf_95 rfl (lv_at hl 2 rfl) ?_
          refine lv_iconst (v := (1 : Int32)) hx hb dX1_patchOf_96 (by decide) ?_
          refine lv_iload hx hb dX1_patchOf_97 (lv_at hl 5 rfl) ?_
          refine lv_ishl hx hb dX1_patchOf_99 ?_
          refine lv_ior hx hb dX1_patchOf_100 ?_
          obtain ⟨v16, ev16, hf⟩ := bq_lts hf
          refine bq_tope ev16 ?_
          refine lv_istore_n (lv' := [(3, .int v16), (0, .ref (ba 0)), (2, .int x2), (4, .int x4), (5, .int x5), (6, .int x6)]) hx hb dX1_patchOf_101 rfl hl (by decide) rfl (fun ls hl => ?_)
          obtain ⟨v17, ev17, hf⟩ := bq_lts hf
          refine lv_iinc (v := v17) (lv' := [(6, .int v17), (3, .int v16), (0, .ref (ba 0)), (2, .int x2), (4, .int x4), (5, .int x5)]) hx hb dX1_patchOf_102 hl (k := 5) rfl (bq_inc (by decide) ev17) (by decide) rfl (fun ls hl => ?_)
          refine lv_goto (tgt := 43) hx hb dX1_patchOf_105 (by decide) ?_
          exact ih _ _ _ _ _ _ _ hf hP hD hS ls (lv_sub hl [2, 3, 1, 4, 5, 0] rfl) hk0
set_option maxHeartbeats 4000000 in
theorem wk_bl_patchOf_L19 {p : Program} {e : Env} {R : Room} {s : State} {m : MethodId} {args : Array Value} {below : List Frame} {meth : Method} {c : Code} {A : Nat → Prop} {kc ks : Nat} {Q : State → Prop} {l : Launch} {D : va_G} {am : bqAm} {X vE sE : Nat → Nat} {d : Nat → ClassId} {ba ca ia ka na ta : Nat → Nat} {dy fa : Option Nat} {F : Nat} (C : bq_C p R s m args meth c A D bqCl (bqTy d) am cX1_patchOf 7 RX1 2 82) (hkc : kc ≤ R.cells) (hks : ks ≤ R.slots) (hamb : bq_Amb am X vE sE)  {β : bqS} {σ : bqS} {κ : bqS} {x4 : Int32} :
    ∀ (k : Nat) (x2 : Int32) (x3 : Int32) (x5 : Int32) (y3 : Int32) (H : Heap) (locs : List Loc), bl_patchOf_L19 F β σ κ k x2 x3 x5 = some y3 → va_P D bqCl (List.flatten ([bbB d ba ca na ta ka ia β, stB d na σ, coB d ca dy fa κ] : List va_W)) H → va_D A (List.flatten ([bbB d ba ca na ta ka ia β, stB d na σ, coB d ca dy fa κ] : List va_W)) → va_S A s.heap H locs → ∀ ls : Array Slot, lv_has ls 7 [(0, .ref (ba 0)), (2, .int x2), (3, .int x3), (4, .int x4), (5, .int x5)] →
      (∀ (H : Heap) (locs : List Loc), va_P D bqCl (List.flatten ([bbB d ba ca na ta ka ia β, stB d na σ, coB d ca dy fa κ] : List va_W)) H → va_D A (List.flatten ([bbB d ba ca na ta ka ia β, stB d na σ, coB d ca dy fa κ] : List va_W)) → va_S A s.heap H locs → ∀ ls : Array Slot, lv_has ls 7 [(0, .ref (ba 0)), (2, .int x2), (3, .int y3), (4, .int x4)] → W p l e R s m args below meth c H locs kc ks Q (F0 m 114 ls [])) →
      W p l e R s m args below meth c H locs kc ks Q (F0 m 19 ls []) := by
  have C0 := C
  obtain ⟨hx, hb, hown, hts, hml, hlocks, hA, hK, hm, hRf, hRl, hok⟩ := C
  have C := C0
  intro k
  induction k with
  | zero => intro x2 x3 x5 y3 H locs hf
            cases hf
  | succ k ih =>
    intro x2 x3 x5 y3 H locs hf hP hD hS ls hl hk0
    rw [bl_patchOf_L19] at hf
    refine lv_iload hx hb dX1_patchOf_19 (lv_at hl 4 rfl) ?_
    refine lv_aload_n hx hb dX1_patchOf_21 rfl (lv_at hl 0 rfl) ?_
    obtain ⟨v4, hg, hf⟩ := bq_b1s hf
    refine bq_cV (bs := [bbB d ba ca na ta ka ia β, stB d na σ, coB d ca dy fa κ]) (bc := [bbB d ba ca na ta ka ia β, coB d ca dy fa κ]) (br := [stB d na σ]) (bc' := [bbB d ba ca na ta ka ia β, coB d ca dy fa κ]) (bs' := [bbB d ba ca na ta ka ia β, stB d na σ, coB d ca dy fa κ]) (As := []) (rest := [.int x5]) (o := (some (.int v4))) C hkc hks (met_bl_cells hok hamb hg) (bq_pm [0, 2, 1] rfl rfl rfl) (bq_pm [0, 2, 1] rfl rfl rfl) (lw_V q990 q992 qs13 q113 q993) (hd_X1_cells) (Nat.le_of_ble_eq_true rfl) (Nat.le_of_ble_eq_true rfl) (va_recv hK hP (ci := 1) (q0 := 0) rfl rfl) rfl hl.1 rfl (Nat.le_of_ble_eq_true rfl) dX1_patchOf_22 hP hD hS (fun H locs hP hD hS => ?_)
    refine lv_icmp_ge (tgt := 114) hx hb dX1_patchOf_25 (by decide) (fun c5 => ?_) (fun c5 => ?_)
    · have hf := bq_ip c5 hf
      obtain rfl := Option.some.inj hf
      exact hk0 _ _ hP hD hS ls (lv_sub hl [0, 1, 2, 3] rfl)
    · have hf := bq_in c5 hf
      refine lv_iload_n hx hb dX1_patchOf_28 rfl (lv_at hl 2 rfl) ?_
      refine lv_iload hx hb dX1_patchOf_29 (lv_at hl 4 rfl) ?_
      refine lv_ishr hx hb dX1_patchOf_31 ?_
      refine lv_iconst (v := (1 : Int32)) hx hb dX1_patchOf_32 (by decide) ?_
      refine lv_iand hx hb dX1_patchOf_33 ?_
      refine lv_if_ne (tgt := 40) hx hb dX1_patchOf_34 (by decide) (fun c6 => ?_) (fun c6 => ?_)
      · have hf := bq_in c6 hf
        refine lv_iconst (v := (0 : Int32)) hx hb dX1_patchOf_40 (by decide) ?_
        refine lv_istore (lv' := [(6, .int (0 : Int32)), (0, .ref (ba 0)), (2, .int x2), (3, .int x3), (4, .int x4), (5, .int x5)]) hx hb dX1_patchOf_41 hl (by decide) rfl (fun ls hl => ?_)
        obtain ⟨v18, hg, hf⟩ := bq_b1s hf
        refine wk_bl_patchOf_L43 C hkc hks hamb _ _ _ _ _ _ _ _ hg hP hD hS ls (lv_sub hl [1, 2, 3, 4, 5, 0] rfl) ?_
        · intro H locs hP hD hS ls hl
          obtain ⟨v19, ev19, hf⟩ := bq_lts hf
          refine lv_iinc (v := v19) (lv' := [(5, .int v19), (0, .ref (ba 0)), (2, .int x2), (3, .int v18), (4, .int x4)]) hx hb dX1_patchOf_108 hl (k := 4) rfl (bq_inc (by decide) ev19) (by decide) rfl (fun ls hl => ?_)
          refine lv_goto (tgt := 19) hx hb dX1_patchOf_111 (by decide) ?_
          exact ih _ _ _ _ _ _ hf hP hD hS ls (lv_sub hl [1, 2, 3, 4, 0] rfl) hk0
      · have hf := bq_ip c6 hf
        refine lv_goto (tgt := 108) hx hb dX1_patchOf_37 (by decide) ?_
        obtain ⟨v20, ev20, hf⟩ := bq_lts hf
        refine lv_iinc (v := v20) (lv' := [(5, .int v20), (0, .ref (ba 0)), (2, .int x2), (3, .int x3), (4, .int x4)]) hx hb dX1_patchOf_108 hl (k := 4) rfl (bq_inc (by decide) ev20) (by decide) rfl (fun ls hl => ?_)
        refine lv_goto (tgt := 19) hx hb dX1_patchOf_111 (by decide) ?_
        exact ih _ _ _ _ _ _ hf hP hD hS ls (lv_sub hl [1, 2, 3, 4, 0] rfl) hk0
set_option maxHeartbeats 4000000 in
theorem wk_bl_patchOf_L7 {p : Program} {e : Env} {R : Room} {s : State} {m : MethodId} {args : Array Value} {below : List Frame} {meth : Method} {c : Code} {A : Nat → Prop} {kc ks : Nat} {Q : State → Prop} {l : Launch} {D : va_G} {am : bqAm} {X vE sE : Nat → Nat} {d : Nat → ClassId} {ba ca ia ka na ta : Nat → Nat} {dy fa : Option Nat} {F : Nat} (C : bq_C p R s m args meth c A D bqCl (bqTy d) am cX1_patchOf 7 RX1 2 82) (hkc : kc ≤ R.cells) (hks : ks ≤ R.slots) (hamb : bq_Amb am X vE sE)  {β : bqS} {σ : bqS} {κ : bqS} :
    ∀ (k : Nat) (x2 : Int32) (x3 : Int32) (x4 : Int32) (y3 : Int32) (H : Heap) (locs : List Loc), bl_patchOf_L7 F β σ κ k x2 x3 x4 = some y3 → va_P D bqCl (List.flatten ([bbB d ba ca na ta ka ia β, stB d na σ, coB d ca dy fa κ] : List va_W)) H → va_D A (List.flatten ([bbB d ba ca na ta ka ia β, stB d na σ, coB d ca dy fa κ] : List va_W)) → va_S A s.heap H locs → ∀ ls : Array Slot, lv_has ls 7 [(0, .ref (ba 0)), (2, .int x2), (3, .int x3), (4, .int x4)] →
      (∀ (H : Heap) (locs : List Loc), va_P D bqCl (List.flatten ([bbB d ba ca na ta ka ia β, stB d na σ, coB d ca dy fa κ] : List va_W)) H → va_D A (List.flatten ([bbB d ba ca na ta ka ia β, stB d na σ, coB d ca dy fa κ] : List va_W)) → va_S A s.heap H locs → ∀ ls : Array Slot, lv_has ls 7 [(3, .int y3)] → W p l e R s m args below meth c H locs kc ks Q (F0 m 120 ls [])) →
      W p l e R s m args below meth c H locs kc ks Q (F0 m 7 ls []) := by
  have C0 := C
  obtain ⟨hx, hb, hown, hts, hml, hlocks, hA, hK, hm, hRf, hRl, hok⟩ := C
  have C := C0
  intro k
  induction k with
  | zero => intro x2 x3 x4 y3 H locs hf
            cases hf
  | succ k ih =>
    intro x2 x3 x4 y3 H locs hf hP hD hS ls hl hk0
    rw [bl_patchOf_L7] at hf
    refine lv_iload hx hb dX1_patchOf_7 (lv_at hl 3 rfl) ?_
    refine lv_aload_n hx hb dX1_patchOf_9 rfl (lv_at hl 0 rfl) ?_
    obtain ⟨v2, hg, hf⟩ := bq_b1s hf
    refine bq_cV (bs := [bbB d ba ca na ta ka ia β, stB d na σ, coB d ca dy fa κ]) (bc := [bbB d ba ca na ta ka ia β, coB d ca dy fa κ]) (br := [stB d na σ]) (bc' := [bbB d ba ca na ta ka ia β, coB d ca dy fa κ]) (bs' := [bbB d ba ca na ta ka ia β, stB d na σ, coB d ca dy fa κ]) (As := []) (rest := [.int x4]) (o := (some (.int v2))) C hkc hks (met_bl_cells hok hamb hg) (bq_pm [0, 2, 1] rfl rfl rfl) (bq_pm [0, 2, 1] rfl rfl rfl) (lw_V q990 q992 qs13 q113 q993) (hd_X1_cells) (Nat.le_of_ble_eq_true rfl) (Nat.le_of_ble_eq_true rfl) (va_recv hK hP (ci := 1) (q0 := 0) rfl rfl) rfl hl.1 rfl (Nat.le_of_ble_eq_true rfl) dX1_patchOf_10 hP hD hS (fun H locs hP hD hS => ?_)
    refine lv_icmp_ge (tgt := 120) hx hb dX1_patchOf_13 (by decide) (fun c3 => ?_) (fun c3 => ?_)
    · have hf := bq_ip c3 hf
      obtain rfl := Option.some.inj hf
      exact hk0 _ _ hP hD hS ls (lv_sub hl [2] rfl)
    · have hf := bq_in c3 hf
      refine lv_iconst (v := (0 : Int32)) hx hb dX1_patchOf_16 (by decide) ?_
      refine lv_istore (lv' := [(5, .int (0 : Int32)), (0, .ref (ba 0)), (2, .int x2), (3, .int x3), (4, .int x4)]) hx hb dX1_patchOf_17 hl (by decide) rfl (fun ls hl => ?_)
      obtain ⟨v21, hg, hf⟩ := bq_b1s hf
      refine wk_bl_patchOf_L19 C hkc hks hamb _ _ _ _ _ _ _ hg hP hD hS ls (lv_sub hl [1, 2, 3, 4, 0] rfl) ?_
      · intro H locs hP hD hS ls hl
        obtain ⟨v22, ev22, hf⟩ := bq_lts hf
        refine lv_iinc (v := v22) (lv' := [(4, .int v22), (0, .ref (ba 0)), (2, .int x2), (3, .int v21)]) hx hb dX1_patchOf_114 hl (k := 3) rfl (bq_inc (by decide) ev22) (by decide) rfl (fun ls hl => ?_)
        refine lv_goto (tgt := 7) hx hb dX1_patchOf_117 (by decide) ?_
        exact ih _ _ _ _ _ _ hf hP hD hS ls (lv_sub hl [1, 2, 3, 0] rfl) hk0
set_option maxHeartbeats 4000000 in
theorem met_bl_patchOf {l : Launch} {D : va_G} {am : bqAm} {X vE sE : Nat → Nat} {d : Nat → ClassId} {ba ca ia ka na ta : Nat → Nat} {dy fa : Option Nat} {F : Nat} {β : bqS} {σ : bqS} {κ : bqS} {r : Int32} {x1 : Int32} {x2 : Int32} (hok : bq_Ok am) (hamb : bq_Amb am X vE sE) (hf : bl_patchOf F β σ κ x1 x2 = some r) : bq_M l yX1_patchOf cX1_patchOf 7 (some .int) 2 82 D bqCl (bqTy d) am [.ref (ba 0), .int x1, .int x2] (List.flatten ([bbB d ba ca na ta ka ia β, stB d na σ, coB d ca dy fa κ] : List va_W)) (some (.int r)) (List.flatten ([bbB d ba ca na ta ka ia β, stB d na σ, coB d ca dy fa κ] : List va_W)) := by
  unfold bl_patchOf at hf
  refine bq_of hok (by decide +kernel) (Nat.le_of_ble_eq_true rfl) ?_
  intro p e s m below meth c A ls C hr hP hD hS hl
  have C0 := C
  obtain ⟨hx, hb, hown, hts, hml, hlocks, hA, hK, hm, hRf, hRl, hok⟩ := C
  have C := C0
  have hkc := Nat.zero_le 0
  have hks := Nat.zero_le 0
  have hl : lv_has ls 7 [(0, .ref (ba 0)), (1, .int x1), (2, .int x2)] := hl
  refine lv_iconst (v := (1 : Int32)) hx hb dX1_patchOf_0 (by decide) ?_
  refine lv_iload_n hx hb dX1_patchOf_1 rfl (lv_at hl 1 rfl) ?_
  refine lv_ishl hx hb dX1_patchOf_2 ?_
  obtain ⟨v1, ev1, hf⟩ := bq_lts hf
  refine bq_tope ev1 ?_
  refine lv_istore_n (lv' := [(3, .int v1), (0, .ref (ba 0)), (1, .int x1), (2, .int x2)]) hx hb dX1_patchOf_3 rfl hl (by decide) rfl (fun ls hl => ?_)
  refine lv_iconst (v := (0 : Int32)) hx hb dX1_patchOf_4 (by decide) ?_
  refine lv_istore (lv' := [(4, .int (0 : Int32)), (3, .int v1), (0, .ref (ba 0)), (1, .int x1), (2, .int x2)]) hx hb dX1_patchOf_5 hl (by decide) rfl (fun ls hl => ?_)
  obtain ⟨v23, hg, hf⟩ := bq_b1s hf
  refine wk_bl_patchOf_L7 C hkc hks hamb _ _ _ _ _ _ _ hg hP hD hS ls (lv_sub hl [2, 4, 1, 0] rfl) ?_
  · intro H locs hP hD hS ls hl
    refine lv_iload_n hx hb dX1_patchOf_120 rfl (lv_at hl 0 rfl) ?_
    obtain rfl := Option.some.inj hf
    exact bq_iret C hr hP hD hS dX1_patchOf_121
set_option maxHeartbeats 4000000 in
theorem wk_bl_cell_L63 {p : Program} {e : Env} {R : Room} {s : State} {m : MethodId} {args : Array Value} {below : List Frame} {meth : Method} {c : Code} {A : Nat → Prop} {kc ks : Nat} {Q : State → Prop} {l : Launch} {D : va_G} {am : bqAm} {X vE sE : Nat → Nat} {d : Nat → ClassId} {ba ca ia ka na ta : Nat → Nat} {dy fa : Option Nat} {L : Nat} {mc : Int32} {F : Nat} {E : bqE} (C : bq_C p R s m args meth c A D bqCl (bqTy d) am cX1_cell 5 RX1 8 131) (hkc : kc ≤ R.cells) (hks : ks ≤ R.slots) (hamb : bq_Amb am X vE sE) (hst : l.stackTraces = false) (hL : E.1 ≤ L ∧ L < 2147483648) {β : bqS} {σ : bqS} {κ : bqS} :
    ∀ (k : Nat) (x1 : Int32) (x3 : Int32) (x4 : Int32) (y3 : Int32) (H : Heap) (locs : List Loc), bl_cell_L63 F E β σ κ k x1 x3 x4 = some y3 → va_P D bqCl (List.flatten ([bbB d ba ca na ta ka ia β, stB d na σ, coB d ca dy fa κ, lsB d ca L mc E.1] : List va_W)) H → va_D A (List.flatten ([bbB d ba ca na ta ka ia β, stB d na σ, coB d ca dy fa κ, lsB d ca L mc E.1] : List va_W)) → va_S A s.heap H locs → ∀ ls : Array Slot, lv_has ls 5 [(0, .ref (ba 0)), (1, .int x1), (3, .int x3), (4, .int x4)] →
      (∀ (H : Heap) (locs : List Loc), va_P D bqCl (List.flatten ([bbB d ba ca na ta ka ia β, stB d na σ, coB d ca dy fa κ, lsB d ca L mc E.1] : List va_W)) H → va_D A (List.flatten ([bbB d ba ca na ta ka ia β, stB d na σ, coB d ca dy fa κ, lsB d ca L mc E.1] : List va_W)) → va_S A s.heap H locs → ∀ ls : Array Slot, lv_has ls 5 [(3, .int y3)] → W p l e R s m args below meth c H locs kc ks Q (F0 m 99 ls [])) →
      W p l e R s m args below meth c H locs kc ks Q (F0 m 63 ls []) := by
  have C0 := C
  obtain ⟨hx, hb, hown, hts, hml, hlocks, hA, hK, hm, hRf, hRl, hok⟩ := C
  have C := C0
  intro k
  induction k with
  | zero => intro x1 x3 x4 y3 H locs hf
            cases hf
  | succ k ih =>
    intro x1 x3 x4 y3 H locs hf hP hD hS ls hl hk0
    rw [bl_cell_L63] at hf
    refine lv_iload hx hb dX1_cell_63 (lv_at hl 3 rfl) ?_
    refine lv_aload_n hx hb dX1_cell_65 rfl (lv_at hl 0 rfl) ?_
    obtain ⟨v9, hg, hf⟩ := bq_b1s hf
    refine bq_cV (bs := [bbB d ba ca na ta ka ia β, stB d na σ, coB d ca dy fa κ, lsB d ca L mc E.1]) (bc := [bbB d ba ca na ta ka ia β, coB d ca dy fa κ, lsB d ca L mc E.1]) (br := [stB d na σ]) (bc' := [bbB d ba ca na ta ka ia β, coB d ca dy fa κ, lsB d ca L mc E.1]) (bs' := [bbB d ba ca na ta ka ia β, stB d na σ, coB d ca dy fa κ, lsB d ca L mc E.1]) (As := []) (rest := [.int x4]) (o := (some (.int v9))) C hkc hks (met_bl_girls hok hamb hL hg) (bq_pm [0, 2, 3, 1] rfl rfl rfl) (bq_pm [0, 3, 1, 2] rfl rfl rfl) (lw_V q979 q981 qs12 q113 q982) (hd_X1_girls) (Nat.le_of_ble_eq_true rfl) (Nat.le_of_ble_eq_true rfl) (va_recv hK hP (ci := 1) (q0 := 0) rfl rfl) rfl hl.1 rfl (Nat.le_of_ble_eq_true rfl) dX1_cell_66 hP hD hS (fun H locs hP hD hS => ?_)
    refine lv_icmp_ge (tgt := 99) hx hb dX1_cell_69 (by decide) (fun c10 => ?_) (fun c10 => ?_)
    · have hf := bq_ip c10 hf
      obtain rfl := Option.some.inj hf
      exact hk0 _ _ hP hD hS ls (lv_sub hl [2] rfl)
    · have hf := bq_in c10 hf
      refine lv_aload_n hx hb dX1_cell_72 rfl (lv_at hl 0 rfl) ?_
      refine gX1_get (own := RX1) (fs := (bbF ba ca na ta ka ia β)) (v := .ref (na 0)) hx hb hts hown hK hP (q0 := 0) rfl 3 (Nat.le_of_ble_eq_true rfl) (hts _ q758) rfl dX1_cell_73 ?_
      refine gX6_getN (own := RX1) (host := "BlueBag") (fs := (stF na σ)) (v := .ref (na 2)) hx hb hts hown hK hP (q0 := 6) rfl 1 (Nat.le_of_ble_eq_true rfl) (bq_nF hamb hm 16 rfl) rfl dX1_cell_76 ?_
      refine lv_iload hx hb dX1_cell_79 (lv_at hl 3 rfl) ?_
      obtain ⟨h11, hf⟩ := bq_cks hf
      refine bq_ild (j := x4.toNatClampNeg) (f := σ 2) (q := 0) hx hb hK hP 8 rfl rfl h11 rfl dX1_cell_81 ?_
      refine lv_iload_n hx hb dX1_cell_82 rfl (lv_at hl 1 rfl) ?_
      refine lv_icmp_ne (tgt := 93) hx hb dX1_cell_83 (by decide) (fun c12 => ?_) (fun c12 => ?_)
      · have hf := bq_in c12 hf
        obtain ⟨v13, ev13, hf⟩ := bq_lts hf
        refine lv_iinc (v := v13) (lv' := [(4, .int v13), (0, .ref (ba 0)), (1, .int x1), (3, .int x3)]) hx hb dX1_cell_93 hl (k := 3) rfl (bq_inc (by decide) ev13) (by decide) rfl (fun ls hl => ?_)
        refine lv_goto (tgt := 63) hx hb dX1_cell_96 (by decide) ?_
        exact ih _ _ _ _ _ _ hf hP hD hS ls (lv_sub hl [1, 2, 3, 0] rfl) hk0
      · have hf := bq_ip c12 hf
        refine lv_iload_n hx hb dX1_cell_86 rfl (lv_at hl 2 rfl) ?_
        refine lv_iconst (v := (1 : Int32)) hx hb dX1_cell_87 (by decide) ?_
        refine lv_iload hx hb dX1_cell_88 (lv_at hl 3 rfl) ?_
        refine lv_ishl hx hb dX1_cell_90 ?_
        refine lv_ior hx hb dX1_cell_91 ?_
        obtain ⟨v14, ev14, hf⟩ := bq_lts hf
        refine bq_tope ev14 ?_
        refine lv_istore_n (lv' := [(3, .int v14), (0, .ref (ba 0)), (1, .int x1), (4, .int x4)]) hx hb dX1_cell_92 rfl hl (by decide) rfl (fun ls hl => ?_)
        obtain ⟨v15, ev15, hf⟩ := bq_lts hf
        refine lv_iinc (v := v15) (lv' := [(4, .int v15), (3, .int v14), (0, .ref (ba 0)), (1, .int x1)]) hx hb dX1_cell_93 hl (k := 3) rfl (bq_inc (by decide) ev15) (by decide) rfl (fun ls hl => ?_)
        refine lv_goto (tgt := 63) hx hb dX1_cell_96 (by decide) ?_
        exact ih _ _ _ _ _ _ hf hP hD hS ls (lv_sub hl [2, 3, 1, 0] rfl) hk0
set_option maxHeartbeats 4000000 in
theorem met_bl_cell {l : Launch} {D : va_G} {am : bqAm} {X vE sE : Nat → Nat} {d : Nat → ClassId} {ba ca ia ka na ta : Nat → Nat} {dy fa : Option Nat} {L : Nat} {mc : Int32} {F : Nat} {E : bqE} {β : bqS} {σ : bqS} {κ : bqS} {r : Int32} {tg : Nat} {x1 : Int32} {x2 : Int32} (hok : bq_Ok am) (hamb : bq_Amb am X vE sE) (hst : l.stackTraces = false) (hL : E.1 ≤ L ∧ L < 2147483648) (hf : bl_cell F E β σ κ x1 x2 = some (tg, r)) : bq_X l yX1_cell cX1_cell 5 (some .int) 8 131 2 12 D bqCl (bqTy d) am [.ref (ba 0), .int x1, .int x2] (List.flatten ([bbB d ba ca na ta ka ia β, stB d na σ, coB d ca dy fa κ, lsB d ca L mc E.1] : List va_W)) tg (some (.int r)) (List.flatten ([bbB d ba ca na ta ka ia β, stB d na σ, coB d ca dy fa κ, lsB d ca L mc E.1] : List va_W)) := by
  unfold bl_cell at hf
  refine bq_ofX hok (by decide +kernel) (Nat.le_of_ble_eq_true rfl) ?_
  intro p e s m below meth c A ls C hr hex hP hD hS hl
  have C0 := C
  obtain ⟨hx, hb, hown, hts, hml, hlocks, hA, hK, hm, hRf, hRl, hok⟩ := C
  have C := C0
  have hkc := Nat.zero_le 2
  have hks := Nat.zero_le 12
  have hl : lv_has ls 5 [(0, .ref (ba 0)), (1, .int x1), (2, .int x2)] := hl
  refine lv_aload_n hx hb dX1_cell_0 rfl (lv_at hl 0 rfl) ?_
  refine lv_iload_n hx hb dX1_cell_1 rfl (lv_at hl 1 rfl) ?_
  obtain ⟨t1, hg, hf⟩ := bq_b1s hf
  refine bq_cVX (bs := [bbB d ba ca na ta ka ia β, stB d na σ, coB d ca dy fa κ, lsB d ca L mc E.1]) (bc := [bbB d ba ca na ta ka ia β, coB d ca dy fa κ]) (br := [stB d na σ, lsB d ca L mc E.1]) (bc' := [bbB d ba ca na ta ka ia β, coB d ca dy fa κ]) (bs' := [bbB d ba ca na ta ka ia β, stB d na σ, coB d ca dy fa κ, lsB d ca L mc E.1]) (As := [.int x1]) (rest := []) (o := none) C (Nat.le_of_ble_eq_true rfl) (Nat.le_of_ble_eq_true rfl) (met_bl_cellAt hok hamb hst hg) (bq_pm [0, 2, 1, 3] rfl rfl rfl) (bq_pm [0, 2, 1, 3] rfl rfl rfl) (lw_V q1423 q1425 qs35 q113 q1426) (hd_X1_cellAt) (Nat.le_of_ble_eq_true rfl) (Nat.le_of_ble_eq_true rfl) (va_recv hK hP (ci := 1) (q0 := 0) rfl rfl) rfl hl.1 rfl (Nat.le_of_ble_eq_true rfl) dX1_cell_2 hP hD hS (fun ht_ H locs hP hD hS => ?_) (fun ht_ => ?_)
  · have hf := bq_ip ht_ hf
    have hkc : 1 ≤ 2 := by decide
    have hks : 6 ≤ 12 := by decide
    refine lv_iload_n hx hb dX1_cell_5 rfl (lv_at hl 2 rfl) ?_
    refine lv_iconst (v := (0 : Int32)) hx hb dX1_cell_6 (by decide) ?_
    refine lv_iconst (v := (3 : Int32)) hx hb dX1_cell_7 (by decide) ?_
    obtain ⟨v2, hg, hf⟩ := bq_b1s hf
    refine bq_cS (bs := [bbB d ba ca na ta ka ia β, stB d na σ, coB d ca dy fa κ, lsB d ca L mc E.1]) (bc := []) (br := [bbB d ba ca na ta ka ia β, stB d na σ, coB d ca dy fa κ, lsB d ca L mc E.1]) (bc' := []) (bs' := [bbB d ba ca na ta ka ia β, stB d na σ, coB d ca dy fa κ, lsB d ca L mc E.1]) (As := [.int x2, .int (0 : Int32), .int (3 : Int32)]) (rest := []) (o := (some (.int v2))) C hkc hks (met_bl_within hok hg) (bq_pm [0, 1, 2, 3] rfl rfl rfl) (bq_pm [0, 1, 2, 3] rfl rfl rfl) (lw_S q814 q815 q113 q816) (hd_X1_within) (Nat.le_of_ble_eq_true rfl) (Nat.le_of_ble_eq_true rfl) rfl hl.1 rfl (Nat.le_of_ble_eq_true rfl) dX1_cell_8 hP hD hS (fun H locs hP hD hS => ?_)
    obtain ⟨t3, hg, hf⟩ := bq_b1s hf
    refine bq_cSX (bs := [bbB d ba ca na ta ka ia β, stB d na σ, coB d ca dy fa κ, lsB d ca L mc E.1]) (bc := []) (br := [bbB d ba ca na ta ka ia β, stB d na σ, coB d ca dy fa κ, lsB d ca L mc E.1]) (bc' := []) (bs' := [bbB d ba ca na ta ka ia β, stB d na σ, coB d ca dy fa κ, lsB d ca L mc E.1]) (As := [.int v2]) (rest := []) (o := none) C (Nat.le_of_ble_eq_true rfl) (Nat.le_of_ble_eq_true rfl) (met_bl_there hok hamb hst hg) (bq_pm [0, 1, 2, 3] rfl rfl rfl) (bq_pm [0, 1, 2, 3] rfl rfl rfl) (lw_S q1394 q1395 q113 q1396) (hd_X1_there) (Nat.le_of_ble_eq_true rfl) (Nat.le_of_ble_eq_true rfl) rfl hl.1 rfl (Nat.le_of_ble_eq_true rfl) dX1_cell_11 hP hD hS (fun ht_ H locs hP hD hS => ?_) (fun ht_ => ?_)
    · have hf := bq_ip ht_ hf
      have hkc : 2 ≤ 2 := by decide
      have hks : 12 ≤ 12 := by decide
      refine lv_iconst (v := (0 : Int32)) hx hb dX1_cell_14 (by decide) ?_
      refine lv_istore_n (lv' := [(3, .int (0 : Int32)), (0, .ref (ba 0)), (1, .int x1), (2, .int x2)]) hx hb dX1_cell_15 rfl hl (by decide) rfl (fun ls hl => ?_)
      refine lv_iload_n hx hb dX1_cell_16 rfl (lv_at hl 3 rfl) ?_
      by_cases c4 : x2 = (0 : Int32)
      · have hf := bq_ip c4 hf
        refine lv_tableIn (off := 27) (tgt := 44) hx hb dX1_cell_17 (by rw [c4]; decide) (by rw [c4]; decide) (by rw [c4]; rfl) (by decide) ?_
        refine lv_aload_n hx hb dX1_cell_44 rfl (lv_at hl 1 rfl) ?_
        refine gX1_get (own := RX1) (fs := (bbF ba ca na ta ka ia β)) (v := .ref (na 0)) hx hb hts hown hK hP (q0 := 0) rfl 3 (Nat.le_of_ble_eq_true rfl) (hts _ q758) rfl dX1_cell_45 ?_
        refine gX6_getN (own := RX1) (host := "BlueBag") (fs := (stF na σ)) (v := .ref (na 1)) hx hb hts hown hK hP (q0 := 6) rfl 0 (Nat.le_of_ble_eq_true rfl) (bq_nF hamb hm 15 rfl) rfl dX1_cell_48 ?_
        refine lv_iload_n hx hb dX1_cell_51 rfl (lv_at hl 2 rfl) ?_
        obtain ⟨h5, hf⟩ := bq_cks hf
        refine bq_ild (j := x1.toNatClampNeg) (f := σ 1) (q := 0) hx hb hK hP 7 rfl rfl h5 rfl dX1_cell_52 ?_
        obtain ⟨rfl, rfl⟩ := bq_p2 hf
        exact bq_iretX C hr (by decide) (by decide) hP hD hS dX1_cell_53
      · have hf := bq_in c4 hf
        by_cases c6 : x2 = (1 : Int32)
        · have hf := bq_ip c6 hf
          refine lv_tableIn (off := 37) (tgt := 54) hx hb dX1_cell_17 (by rw [c6]; decide) (by rw [c6]; decide) (by rw [c6]; rfl) (by decide) ?_
          refine lv_aload_n hx hb dX1_cell_54 rfl (lv_at hl 1 rfl) ?_
          refine lv_iload_n hx hb dX1_cell_55 rfl (lv_at hl 2 rfl) ?_
          obtain ⟨v7, hg, hf⟩ := bq_b1s hf
          refine bq_cV (bs := [bbB d ba ca na ta ka ia β, stB d na σ, coB d ca dy fa κ, lsB d ca L mc E.1]) (bc := [bbB d ba ca na ta ka ia β, coB d ca dy fa κ]) (br := [stB d na σ, lsB d ca L mc E.1]) (bc' := [bbB d ba ca na ta ka ia β, coB d ca dy fa κ]) (bs' := [bbB d ba ca na ta ka ia β, stB d na σ, coB d ca dy fa κ, lsB d ca L mc E.1]) (As := [.int x1]) (rest := []) (o := (some (.int v7))) C hkc hks (met_bl_besideOf hok hamb hg) (bq_pm [0, 2, 1, 3] rfl rfl rfl) (bq_pm [0, 2, 1, 3] rfl rfl rfl) (lw_V q1427 q1429 qs36 q113 q1430) (hd_X1_besideOf) (Nat.le_of_ble_eq_true rfl) (Nat.le_of_ble_eq_true rfl) (va_recv hK hP (ci := 1) (q0 := 0) rfl rfl) rfl hl.1 rfl (Nat.le_of_ble_eq_true rfl) dX1_cell_56 hP hD hS (fun H locs hP hD hS => ?_)
          obtain ⟨rfl, rfl⟩ := bq_p2 hf
          exact bq_iretX C hr (by decide) (by decide) hP hD hS dX1_cell_59
        · have hf := bq_in c6 hf
          by_cases c8 : x2 = (2 : Int32)
          · have hf := bq_ip c8 hf
            refine lv_tableIn (off := 43) (tgt := 60) hx hb dX1_cell_17 (by rw [c8]; decide) (by rw [c8]; decide) (by rw [c8]; rfl) (by decide) ?_
            refine lv_iconst (v := (0 : Int32)) hx hb dX1_cell_60 (by decide) ?_
            refine lv_istore (lv' := [(4, .int (0 : Int32)), (3, .int (0 : Int32)), (0, .ref (ba 0)), (1, .int x1), (2, .int x2)]) hx hb dX1_cell_61 hl (by decide) rfl (fun ls hl => ?_)
            obtain ⟨v16, hg, hf⟩ := bq_b1s hf
            refine wk_bl_cell_L63 C hkc hks hamb hst hL _ _ _ _ _ _ _ hg hP hD hS ls (lv_sub hl [2, 3, 1, 0] rfl) ?_
            · intro H locs hP hD hS ls hl
              refine lv_iload_n hx hb dX1_cell_99 rfl (lv_at hl 0 rfl) ?_
              obtain ⟨rfl, rfl⟩ := bq_p2 hf
              exact bq_iretX C hr (by decide) (by decide) hP hD hS dX1_cell_100
          · have hf := bq_in c8 hf
            refine lv_tableOut (tgt := 101) hx hb dX1_cell_17 (bq_tout (lo := 0) (n := 3) (by decide) (lt_s (lt_s (lt_s lt_0 (lv_neT c4 (by decide))) (lv_neT c6 (by decide))) (lv_neT c8 (by decide)))) (by decide) ?_
            refine lv_aload_n hx hb dX1_cell_101 rfl (lv_at hl 1 rfl) ?_
            refine lv_iload_n hx hb dX1_cell_102 rfl (lv_at hl 2 rfl) ?_
            refine lv_iconst (v := (0 : Int32)) hx hb dX1_cell_103 (by decide) ?_
            obtain ⟨v17, hg, hf⟩ := bq_b1s hf
            refine bq_cV (bs := [bbB d ba ca na ta ka ia β, stB d na σ, coB d ca dy fa κ, lsB d ca L mc E.1]) (bc := [bbB d ba ca na ta ka ia β, stB d na σ, coB d ca dy fa κ]) (br := [lsB d ca L mc E.1]) (bc' := [bbB d ba ca na ta ka ia β, stB d na σ, coB d ca dy fa κ]) (bs' := [bbB d ba ca na ta ka ia β, stB d na σ, coB d ca dy fa κ, lsB d ca L mc E.1]) (As := [.int x1, .int (0 : Int32)]) (rest := []) (o := (some (.int v17))) C hkc hks (met_bl_patchOf hok hamb hg) (bq_pm [0, 1, 2, 3] rfl rfl rfl) (bq_pm [0, 1, 2, 3] rfl rfl rfl) (lw_V q1432 q1434 qs37 q113 q1435) (hd_X1_patchOf) (Nat.le_of_ble_eq_true rfl) (Nat.le_of_ble_eq_true rfl) (va_recv hK hP (ci := 1) (q0 := 0) rfl rfl) rfl hl.1 rfl (Nat.le_of_ble_eq_true rfl) dX1_cell_104 hP hD hS (fun H locs hP hD hS => ?_)
            obtain ⟨rfl, rfl⟩ := bq_p2 hf
            exact bq_iretX C hr (by decide) (by decide) hP hD hS dX1_cell_107
    · have hf := bq_in ht_ hf
      obtain ⟨rfl, rfl⟩ := bq_p2 hf
      exact bq_prop C hex ht_ (by decide) (by decide)
  · have hf := bq_in ht_ hf
    obtain ⟨rfl, rfl⟩ := bq_p2 hf
    exact bq_prop C hex ht_ (by decide) (by decide)
set_option maxHeartbeats 4000000 in
theorem met_bl_girl {l : Launch} {D : va_G} {am : bqAm} {X vE sE : Nat → Nat} {d : Nat → ClassId} {ba ca ia ka na ta : Nat → Nat} {dy fa : Option Nat} {L : Nat} {mc : Int32} {P : va_W} {F : Nat} {E : bqE} {β : bqS} {σ : bqS} {ν : bqS} {κ : bqS} {ν' : bqS} {r : Int32} {tg : Nat} {x1 : Int32} {x2 : Int32} (hok : bq_Ok am) (hamb : bq_Amb am X vE sE) (hst : l.stackTraces = false) (hE : bq_E P vE dy fa E) (hby : bq_By l D am d ca vE P 400) (hL : E.1 ≤ L ∧ L < 2147483648) (hf : bl_girl F E β σ ν κ x1 x2 = some (tg, r, ν')) : bq_X l yX1_girl cX1_girl 4 (some .int) 802 24085 2 12 D bqCl (bqTy d) am [.ref (ba 0), .int x1, .int x2] (List.flatten ([bbB d ba ca na ta ka ia β, stB d na σ, viB d ca ν, coB d ca dy fa κ, lsB d ca L mc E.1, giB ca E.1 κ, P] : List va_W)) tg (some (.int r)) (List.flatten ([bbB d ba ca na ta ka ia β, stB d na σ, viB d ca ν', coB d ca dy fa κ, lsB d ca L mc E.1, giB ca E.1 κ, P] : List va_W)) := by
  unfold bl_girl at hf
  refine bq_ofX hok (by decide +kernel) (Nat.le_of_ble_eq_true rfl) ?_
  intro p e s m below meth c A ls C hr hex hP hD hS hl
  have C0 := C
  obtain ⟨hx, hb, hown, hts, hml, hlocks, hA, hK, hm, hRf, hRl, hok⟩ := C
  have C := C0
  have hkc := Nat.zero_le 2
  have hks := Nat.zero_le 12
  have hl : lv_has ls 4 [(0, .ref (ba 0)), (1, .int x1), (2, .int x2)] := hl
  refine lv_aload_n hx hb dX1_girl_0 rfl (lv_at hl 0 rfl) ?_
  refine lv_iload_n hx hb dX1_girl_1 rfl (lv_at hl 1 rfl) ?_
  obtain ⟨t1, hg, hf⟩ := bq_b1s hf
  refine bq_cVX (bs := [bbB d ba ca na ta ka ia β, stB d na σ, viB d ca ν, coB d ca dy fa κ, lsB d ca L mc E.1, giB ca E.1 κ, P]) (bc := [bbB d ba ca na ta ka ia β, coB d ca dy fa κ, lsB d ca L mc E.1, giB ca E.1 κ]) (br := [stB d na σ, viB d ca ν, P]) (bc' := [bbB d ba ca na ta ka ia β, coB d ca dy fa κ, lsB d ca L mc E.1, giB ca E.1 κ]) (bs' := [bbB d ba ca na ta ka ia β, stB d na σ, viB d ca ν, coB d ca dy fa κ, lsB d ca L mc E.1, giB ca E.1 κ, P]) (As := [.int x1]) (rest := []) (o := (some (.ref (ca (10 + x1.toNatClampNeg))))) C (Nat.le_of_ble_eq_true rfl) (Nat.le_of_ble_eq_true rfl) (met_bl_girlAt hok hamb hst hL hg) (bq_pm [0, 3, 4, 5, 1, 2, 6] rfl rfl rfl) (bq_pm [0, 4, 5, 1, 2, 3, 6] rfl rfl rfl) (lw_V q1444 q1446 qs38 q113 q1447) (hd_X1_girlAt) (Nat.le_of_ble_eq_true rfl) (Nat.le_of_ble_eq_true rfl) (va_recv hK hP (ci := 1) (q0 := 0) rfl rfl) rfl hl.1 rfl (Nat.le_of_ble_eq_true rfl) dX1_girl_2 hP hD hS (fun ht_ H locs hP hD hS => ?_) (fun ht_ => ?_)
  · have hf := bq_ip ht_ hf
    have hkc : 1 ≤ 2 := by decide
    have hks : 6 ≤ 12 := by decide
    have hg_ := hg
    rw [ht_] at hg_
    refine lv_astore_n (lv' := [(3, .ref (ca (10 + x1.toNatClampNeg))), (0, .ref (ba 0)), (1, .int x1), (2, .int x2)]) hx hb dX1_girl_5 rfl hl (by decide) rfl (fun ls hl => ?_)
    refine lv_iload_n hx hb dX1_girl_6 rfl (lv_at hl 3 rfl) ?_
    refine lv_iconst (v := (0 : Int32)) hx hb dX1_girl_7 (by decide) ?_
    refine lv_iconst (v := (3 : Int32)) hx hb dX1_girl_8 (by decide) ?_
    obtain ⟨v2, hg, hf⟩ := bq_b1s hf
    refine bq_cS (bs := [bbB d ba ca na ta ka ia β, stB d na σ, viB d ca ν, coB d ca dy fa κ, lsB d ca L mc E.1, giB ca E.1 κ, P]) (bc := []) (br := [bbB d ba ca na ta ka ia β, stB d na σ, viB d ca ν, coB d ca dy fa κ, lsB d ca L mc E.1, giB ca E.1 κ, P]) (bc' := []) (bs' := [bbB d ba ca na ta ka ia β, stB d na σ, viB d ca ν, coB d ca dy fa κ, lsB d ca L mc E.1, giB ca E.1 κ, P]) (As := [.int x2, .int (0 : Int32), .int (3 : Int32)]) (rest := []) (o := (some (.int v2))) C hkc hks (met_bl_within hok hg) (bq_pm [0, 1, 2, 3, 4, 5, 6] rfl rfl rfl) (bq_pm [0, 1, 2, 3, 4, 5, 6] rfl rfl rfl) (lw_S q814 q815 q113 q816) (hd_X1_within) (Nat.le_of_ble_eq_true rfl) (Nat.le_of_ble_eq_true rfl) rfl hl.1 rfl (Nat.le_of_ble_eq_true rfl) dX1_girl_9 hP hD hS (fun H locs hP hD hS => ?_)
    obtain ⟨t3, hg, hf⟩ := bq_b1s hf
    refine bq_cSX (bs := [bbB d ba ca na ta ka ia β, stB d na σ, viB d ca ν, coB d ca dy fa κ, lsB d ca L mc E.1, giB ca E.1 κ, P]) (bc := []) (br := [bbB d ba ca na ta ka ia β, stB d na σ, viB d ca ν, coB d ca dy fa κ, lsB d ca L mc E.1, giB ca E.1 κ, P]) (bc' := []) (bs' := [bbB d ba ca na ta ka ia β, stB d na σ, viB d ca ν, coB d ca dy fa κ, lsB d ca L mc E.1, giB ca E.1 κ, P]) (As := [.int v2]) (rest := []) (o := none) C (Nat.le_of_ble_eq_true rfl) (Nat.le_of_ble_eq_true rfl) (met_bl_there hok hamb hst hg) (bq_pm [0, 1, 2, 3, 4, 5, 6] rfl rfl rfl) (bq_pm [0, 1, 2, 3, 4, 5, 6] rfl rfl rfl) (lw_S q1394 q1395 q113 q1396) (hd_X1_there) (Nat.le_of_ble_eq_true rfl) (Nat.le_of_ble_eq_true rfl) rfl hl.1 rfl (Nat.le_of_ble_eq_true rfl) dX1_girl_12 hP hD hS (fun ht_ H locs hP hD hS => ?_) (fun ht_ => ?_)
    · have hf := bq_ip ht_ hf
      have hkc : 2 ≤ 2 := by decide
      have hks : 12 ≤ 12 := by decide
      refine lv_iload_n hx hb dX1_girl_15 rfl (lv_at hl 3 rfl) ?_
      refine lv_if_ne (tgt := 26) hx hb dX1_girl_16 (by decide) (fun c4 => ?_) (fun c4 => ?_)
      · have hf := bq_in c4 hf
        refine lv_iload_n hx hb dX1_girl_26 rfl (lv_at hl 3 rfl) ?_
        refine lv_iconst (v := (1 : Int32)) hx hb dX1_girl_27 (by decide) ?_
        refine lv_icmp_ne (tgt := 43) hx hb dX1_girl_28 (by decide) (fun c5 => ?_) (fun c5 => ?_)
        · have hf := bq_in c5 hf
          refine lv_iload_n hx hb dX1_girl_43 rfl (lv_at hl 3 rfl) ?_
          refine lv_iconst (v := (3 : Int32)) hx hb dX1_girl_44 (by decide) ?_
          refine lv_icmp_ne (tgt := 76) hx hb dX1_girl_45 (by decide) (fun c6 => ?_) (fun c6 => ?_)
          · have hf := bq_in c6 hf
            refine lv_aload_n hx hb dX1_girl_76 rfl (lv_at hl 0 rfl) ?_
            refine gi_isOld (bs := [bbB d ba ca na ta ka ia β, stB d na σ, viB d ca ν, coB d ca dy fa κ, lsB d ca L mc E.1, giB ca E.1 κ, P]) (κ := κ) (rest := []) C hkc hks hok hamb (fun q hq => List.mem_flatten.mpr ⟨giB ca E.1 κ, by simp, hq⟩) (bl_girlAt_lt hg_) q1451 (Nat.le_of_ble_eq_true rfl) (Nat.le_of_ble_eq_true rfl) hl.1 (Nat.le_of_ble_eq_true rfl) dX1_girl_77 hP hD hS (fun H locs hP hD hS => ?_)
            refine lv_if_eq (tgt := 87) hx hb dX1_girl_80 (by decide) (fun c7 => ?_) (fun c7 => ?_)
            · have hf := bq_ip c7 hf
              refine lv_iconst (v := (0 : Int32)) hx hb dX1_girl_87 (by decide) ?_
              obtain ⟨rfl, rfl, rfl⟩ := bq_p3 hf
              exact bq_iretX C hr (by decide) (by decide) hP hD hS dX1_girl_88
            · have hf := bq_in c7 hf
              refine lv_iconst (v := (1 : Int32)) hx hb dX1_girl_83 (by decide) ?_
              refine lv_goto (tgt := 88) hx hb dX1_girl_84 (by decide) ?_
              obtain ⟨rfl, rfl, rfl⟩ := bq_p3 hf
              exact bq_iretX C hr (by decide) (by decide) hP hD hS dX1_girl_88
          · have hf := bq_ip c6 hf
            refine lv_aload_n hx hb dX1_girl_48 rfl (lv_at hl 1 rfl) ?_
            refine gX1_get (own := RX1) (fs := (bbF ba ca na ta ka ia β)) (v := .ref (na 0)) hx hb hts hown hK hP (q0 := 0) rfl 3 (Nat.le_of_ble_eq_true rfl) (hts _ q758) rfl dX1_girl_49 ?_
            refine lv_aload_n hx hb dX1_girl_52 rfl (lv_at hl 1 rfl) ?_
            refine gX1_get (own := RX1) (fs := (bbF ba ca na ta ka ia β)) (v := .ref (ca 0)) hx hb hts hown hK hP (q0 := 0) rfl 0 (Nat.le_of_ble_eq_true rfl) (hts _ q755) rfl dX1_girl_53 ?_
            refine lv_iload_n hx hb dX1_girl_56 rfl (lv_at hl 2 rfl) ?_
            refine lv_iconst (v := (0 : Int32)) hx hb dX1_girl_57 (by decide) ?_
            refine lv_aload_n hx hb dX1_girl_58 rfl (lv_at hl 1 rfl) ?_
            refine gX1_get (own := RX1) (fs := (bbF ba ca na ta ka ia β)) (v := .ref (na 0)) hx hb hts hown hK hP (q0 := 0) rfl 3 (Nat.le_of_ble_eq_true rfl) (hts _ q758) rfl dX1_girl_59 ?_
            refine gX6_getN (own := RX1) (host := "BlueBag") (fs := (stF na σ)) (v := .int (σ 0 4)) hx hb hts hown hK hP (q0 := 6) rfl 4 (Nat.le_of_ble_eq_true rfl) (bq_nF hamb hm 9 rfl) rfl dX1_girl_62 ?_
            refine lv_iconst (v := (1 : Int32)) hx hb dX1_girl_65 (by decide) ?_
            refine lv_isub hx hb dX1_girl_66 ?_
            refine va_mmax hx hb (hml.trans hl.1.symm) hown (hts _ q1449) (hts _ q280) (hts _ q127) (hts _ q281) (Nat.le_trans (Nat.le_of_ble_eq_true rfl) hRf) (Nat.le_trans (Nat.le_of_ble_eq_true rfl) hRl) hkc hks dX1_girl_67 ?_
            obtain ⟨v8, ν9, hg, hf⟩ := bq_b2s hf
            refine bq_cV (bs := [bbB d ba ca na ta ka ia β, stB d na σ, viB d ca ν, coB d ca dy fa κ, lsB d ca L mc E.1, giB ca E.1 κ, P]) (bc := [stB d na σ, viB d ca ν, coB d ca dy fa κ, P]) (br := [bbB d ba ca na ta ka ia β, lsB d ca L mc E.1, giB ca E.1 κ]) (bc' := [stB d na σ, viB d ca ν9, coB d ca dy fa κ, P]) (bs' := [bbB d ba ca na ta ka ia β, stB d na σ, viB d ca ν9, coB d ca dy fa κ, lsB d ca L mc E.1, giB ca E.1 κ, P]) (As := [.ref (ca 0), .int x1, .int (if (0 : Int32) < ((σ 0 4) - (1 : Int32)) then ((σ 0 4) - (1 : Int32)) else (0 : Int32))]) (rest := []) (o := (some (.int v8))) C hkc hks (met_st_dyes hok hamb hE hby hg) (bq_pm [1, 2, 3, 6, 0, 4, 5] rfl rfl rfl) (bq_pm [4, 0, 1, 2, 5, 6, 3] rfl rfl rfl) (lw_V q1450 q857 q858 q138 q859) (hd_X6_dyes) (Nat.le_of_ble_eq_true rfl) (Nat.le_of_ble_eq_true rfl) (va_recv hK hP (ci := 5) (q0 := 6) rfl rfl) rfl hl.1 rfl (Nat.le_of_ble_eq_true rfl) dX1_girl_70 hP hD hS (fun H locs hP hD hS => ?_)
            refine lv_goto (tgt := 88) hx hb dX1_girl_73 (by decide) ?_
            obtain ⟨rfl, rfl, rfl⟩ := bq_p3 hf
            exact bq_iretX C hr (by decide) (by decide) hP hD hS dX1_girl_88
        · have hf := bq_ip c5 hf
          refine lv_aload_n hx hb dX1_girl_31 rfl (lv_at hl 1 rfl) ?_
          refine gX1_get (own := RX1) (fs := (bbF ba ca na ta ka ia β)) (v := .ref (na 0)) hx hb hts hown hK hP (q0 := 0) rfl 3 (Nat.le_of_ble_eq_true rfl) (hts _ q758) rfl dX1_girl_32 ?_
          refine gX6_getN (own := RX1) (host := "BlueBag") (fs := (stF na σ)) (v := .ref (na 2)) hx hb hts hown hK hP (q0 := 6) rfl 1 (Nat.le_of_ble_eq_true rfl) (bq_nF hamb hm 16 rfl) rfl dX1_girl_35 ?_
          refine lv_iload_n hx hb dX1_girl_38 rfl (lv_at hl 2 rfl) ?_
          obtain ⟨h10, hf⟩ := bq_cks hf
          refine bq_ild (j := x1.toNatClampNeg) (f := σ 2) (q := 0) hx hb hK hP 8 rfl rfl h10 rfl dX1_girl_39 ?_
          refine lv_goto (tgt := 88) hx hb dX1_girl_40 (by decide) ?_
          obtain ⟨rfl, rfl, rfl⟩ := bq_p3 hf
          exact bq_iretX C hr (by decide) (by decide) hP hD hS dX1_girl_88
      · have hf := bq_ip c4 hf
        refine lv_aload_n hx hb dX1_girl_19 rfl (lv_at hl 0 rfl) ?_
        refine gi_get0 (κ := κ) hx hb hts hown hK hP (fun q hq => List.mem_flatten.mpr ⟨giB ca E.1 κ, by simp, hq⟩) (bl_girlAt_lt hg_) (hts _ q1370) trivial dX1_girl_20 ?_
        refine lv_goto (tgt := 88) hx hb dX1_girl_23 (by decide) ?_
        obtain ⟨rfl, rfl, rfl⟩ := bq_p3 hf
        exact bq_iretX C hr (by decide) (by decide) hP hD hS dX1_girl_88
    · have hf := bq_in ht_ hf
      obtain ⟨rfl, rfl, rfl⟩ := bq_p3 hf
      exact bq_prop C hex ht_ (by decide) (by decide)
  · have hf := bq_in ht_ hf
    obtain ⟨rfl, rfl, rfl⟩ := bq_p3 hf
    exact bq_prop C hex ht_ (by decide) (by decide)
set_option maxHeartbeats 4000000 in
theorem met_bl_refuses {l : Launch} {D : va_G} {am : bqAm} {X vE sE : Nat → Nat} {d : Nat → ClassId} {ba ca ia ka na ta : Nat → Nat} {β : bqS} {μ : bqS} {μ' : bqS} {r : Int32} {x1 : Int32} (hok : bq_Ok am) (hamb : bq_Amb am X vE sE) (hf : bl_refuses β μ x1 = some (r, μ')) : bq_M l yX1_refuses cX1_refuses 2 (some .int) 0 0 D bqCl (bqTy d) am [.ref (ba 0), .int x1] (List.flatten ([bbB d ba ca na ta ka ia β, bkB d ka na μ] : List va_W)) (some (.int r)) (List.flatten ([bbB d ba ca na ta ka ia β, bkB d ka na μ'] : List va_W)) := by
  unfold bl_refuses at hf
  refine bq_of hok (by decide +kernel) (Nat.le_of_ble_eq_true rfl) ?_
  intro p e s m below meth c A ls C hr hP hD hS hl
  have C0 := C
  obtain ⟨hx, hb, hown, hts, hml, hlocks, hA, hK, hm, hRf, hRl, hok⟩ := C
  have C := C0
  have hkc := Nat.zero_le 0
  have hks := Nat.zero_le 0
  have hl : lv_has ls 2 [(0, .ref (ba 0)), (1, .int x1)] := hl
  refine lv_aload_n hx hb dX1_refuses_0 rfl (lv_at hl 0 rfl) ?_
  refine gX1_get (own := RX1) (fs := (bbF ba ca na ta ka ia β)) (v := .ref (ka 0)) hx hb hts hown hK hP (q0 := 0) rfl 1 (Nat.le_of_ble_eq_true rfl) (hts _ q756) rfl dX1_refuses_1 ?_
  refine gX5_getN (own := RX1) (host := "BlueBag") (fs := (bkF ka na μ)) (v := .ref (ka 4)) hx hb hts hown hK hP (q0 := 6) rfl 5 (Nat.le_of_ble_eq_true rfl) (bq_nF hamb hm 3 rfl) rfl dX1_refuses_4 ?_
  refine lv_iload_n hx hb dX1_refuses_7 rfl (lv_at hl 1 rfl) ?_
  refine lv_dup2_11 hx hb dX1_refuses_8 rfl rfl ?_
  obtain ⟨h1, hf⟩ := bq_cks hf
  refine bq_ild (j := x1.toNatClampNeg) (f := μ 4) (q := 0) hx hb hK hP 10 rfl rfl h1 rfl dX1_refuses_9 ?_
  refine lv_iconst (v := (1 : Int32)) hx hb dX1_refuses_10 (by decide) ?_
  refine lv_iadd hx hb dX1_refuses_11 ?_
  obtain ⟨h2, hf⟩ := bq_cks hf
  obtain ⟨μ3, eμ3, hf⟩ := bq_lts hf
  refine bq_ist (j := x1.toNatClampNeg) (f := μ 4) (ws' := (List.flatten ([bbB d ba ca na ta ka ia β, bkB d ka na (bq_up μ 4 x1.toNatClampNeg ((μ 4 x1.toNatClampNeg) + (1 : Int32)))] : List va_W))) hx hb hK hP hD hS 10 rfl rfl h2 rfl rfl dX1_refuses_12 (fun H locs hP hD hS => ?_)
  rw [← eμ3] at hP hD
  refine lv_iconst (v := (-1 : Int32)) hx hb dX1_refuses_13 (by decide) ?_
  obtain ⟨rfl, rfl⟩ := bq_p2 hf
  exact bq_iret C hr hP hD hS dX1_refuses_14
set_option maxHeartbeats 4000000 in
theorem met_bl_count {l : Launch} {D : va_G} {am : bqAm} {X vE sE : Nat → Nat} {d : Nat → ClassId} {ba ca ia ka na ta : Nat → Nat} {dy fa : Option Nat} {L : Nat} {mc : Int32} {F : Nat} {E : bqE} {β : bqS} {σ : bqS} {μ : bqS} {κ : bqS} {r : Int32} {tg : Nat} {x1 : Int32} (hok : bq_Ok am) (hamb : bq_Amb am X vE sE) (hst : l.stackTraces = false) (hL : E.1 ≤ L ∧ L < 2147483648) (hf : bl_count F E β σ μ κ x1 = some (tg, r)) : bq_X l yX1_count cX1_count 2 (some .int) 7 110 1 6 D bqCl (bqTy d) am [.ref (ba 0), .int x1] (List.flatten ([bbB d ba ca na ta ka ia β, stB d na σ, bkB d ka na μ, coB d ca dy fa κ, lsB d ca L mc E.1] : List va_W)) tg (some (.int r)) (List.flatten ([bbB d ba ca na ta ka ia β, stB d na σ, bkB d ka na μ, coB d ca dy fa κ, lsB d ca L mc E.1] : List va_W)) := by
  unfold bl_count at hf
  refine bq_ofX hok (by decide +kernel) (Nat.le_of_ble_eq_true rfl) ?_
  intro p e s m below meth c A ls C hr hex hP hD hS hl
  have C0 := C
  obtain ⟨hx, hb, hown, hts, hml, hlocks, hA, hK, hm, hRf, hRl, hok⟩ := C
  have C := C0
  have hkc := Nat.zero_le 1
  have hks := Nat.zero_le 6
  have hl : lv_has ls 2 [(0, .ref (ba 0)), (1, .int x1)] := hl
  refine lv_iload_n hx hb dX1_count_0 rfl (lv_at hl 1 rfl) ?_
  refine lv_iconst (v := (0 : Int32)) hx hb dX1_count_1 (by decide) ?_
  refine lv_bipush (v := (16 : Int32)) hx hb dX1_count_2 (by decide) ?_
  obtain ⟨v1, hg, hf⟩ := bq_b1s hf
  refine bq_cS (bs := [bbB d ba ca na ta ka ia β, stB d na σ, bkB d ka na μ, coB d ca dy fa κ, lsB d ca L mc E.1]) (bc := []) (br := [bbB d ba ca na ta ka ia β, stB d na σ, bkB d ka na μ, coB d ca dy fa κ, lsB d ca L mc E.1]) (bc' := []) (bs' := [bbB d ba ca na ta ka ia β, stB d na σ, bkB d ka na μ, coB d ca dy fa κ, lsB d ca L mc E.1]) (As := [.int x1, .int (0 : Int32), .int (16 : Int32)]) (rest := []) (o := (some (.int v1))) C hkc hks (met_bl_within hok hg) (bq_pm [0, 1, 2, 3, 4] rfl rfl rfl) (bq_pm [0, 1, 2, 3, 4] rfl rfl rfl) (lw_S q814 q815 q113 q816) (hd_X1_within) (Nat.le_of_ble_eq_true rfl) (Nat.le_of_ble_eq_true rfl) rfl hl.1 rfl (Nat.le_of_ble_eq_true rfl) dX1_count_4 hP hD hS (fun H locs hP hD hS => ?_)
  obtain ⟨t2, hg, hf⟩ := bq_b1s hf
  refine bq_cSX (bs := [bbB d ba ca na ta ka ia β, stB d na σ, bkB d ka na μ, coB d ca dy fa κ, lsB d ca L mc E.1]) (bc := []) (br := [bbB d ba ca na ta ka ia β, stB d na σ, bkB d ka na μ, coB d ca dy fa κ, lsB d ca L mc E.1]) (bc' := []) (bs' := [bbB d ba ca na ta ka ia β, stB d na σ, bkB d ka na μ, coB d ca dy fa κ, lsB d ca L mc E.1]) (As := [.int v1]) (rest := []) (o := none) C (Nat.le_of_ble_eq_true rfl) (Nat.le_of_ble_eq_true rfl) (met_bl_there hok hamb hst hg) (bq_pm [0, 1, 2, 3, 4] rfl rfl rfl) (bq_pm [0, 1, 2, 3, 4] rfl rfl rfl) (lw_S q1394 q1395 q113 q1396) (hd_X1_there) (Nat.le_of_ble_eq_true rfl) (Nat.le_of_ble_eq_true rfl) rfl hl.1 rfl (Nat.le_of_ble_eq_true rfl) dX1_count_7 hP hD hS (fun ht_ H locs hP hD hS => ?_) (fun ht_ => ?_)
  · have hf := bq_ip ht_ hf
    have hkc : 1 ≤ 1 := by decide
    have hks : 6 ≤ 6 := by decide
    refine lv_iload_n hx hb dX1_count_10 rfl (lv_at hl 1 rfl) ?_
    by_cases c3 : x1 = (0 : Int32)
    · have hf := bq_ip c3 hf
      refine lv_tableIn (off := 69) (tgt := 80) hx hb dX1_count_11 (by rw [c3]; decide) (by rw [c3]; decide) (by rw [c3]; rfl) (by decide) ?_
      refine lv_aload_n hx hb dX1_count_80 rfl (lv_at hl 0 rfl) ?_
      obtain ⟨v4, hg, hf⟩ := bq_b1s hf
      refine bq_cV (bs := [bbB d ba ca na ta ka ia β, stB d na σ, bkB d ka na μ, coB d ca dy fa κ, lsB d ca L mc E.1]) (bc := [bbB d ba ca na ta ka ia β, coB d ca dy fa κ]) (br := [stB d na σ, bkB d ka na μ, lsB d ca L mc E.1]) (bc' := [bbB d ba ca na ta ka ia β, coB d ca dy fa κ]) (bs' := [bbB d ba ca na ta ka ia β, stB d na σ, bkB d ka na μ, coB d ca dy fa κ, lsB d ca L mc E.1]) (As := []) (rest := []) (o := (some (.int v4))) C hkc hks (met_bl_cells hok hamb hg) (bq_pm [0, 3, 1, 2, 4] rfl rfl rfl) (bq_pm [0, 2, 3, 1, 4] rfl rfl rfl) (lw_V q990 q992 qs13 q113 q993) (hd_X1_cells) (Nat.le_of_ble_eq_true rfl) (Nat.le_of_ble_eq_true rfl) (va_recv hK hP (ci := 1) (q0 := 0) rfl rfl) rfl hl.1 rfl (Nat.le_of_ble_eq_true rfl) dX1_count_81 hP hD hS (fun H locs hP hD hS => ?_)
      obtain ⟨rfl, rfl⟩ := bq_p2 hf
      exact bq_iretX C hr (by decide) (by decide) hP hD hS dX1_count_84
    · have hf := bq_in c3 hf
      by_cases c5 : x1 = (1 : Int32)
      · have hf := bq_ip c5 hf
        refine lv_tableIn (off := 74) (tgt := 85) hx hb dX1_count_11 (by rw [c5]; decide) (by rw [c5]; decide) (by rw [c5]; rfl) (by decide) ?_
        refine lv_aload_n hx hb dX1_count_85 rfl (lv_at hl 0 rfl) ?_
        refine gX1_get (own := RX1) (fs := (bbF ba ca na ta ka ia β)) (v := .ref (ca 0)) hx hb hts hown hK hP (q0 := 0) rfl 0 (Nat.le_of_ble_eq_true rfl) (hts _ q755) rfl dX1_count_86 ?_
        refine gX2_getN (own := RX1) (host := "BlueBag") (fs := (coF ca dy fa κ)) (v := .int (κ 0 0)) hx hb hts hown hK hP (q0 := 16) rfl 0 (Nat.le_of_ble_eq_true rfl) (bq_nF hamb hm 7 rfl) rfl dX1_count_89 ?_
        obtain ⟨rfl, rfl⟩ := bq_p2 hf
        exact bq_iretX C hr (by decide) (by decide) hP hD hS dX1_count_92
      · have hf := bq_in c5 hf
        by_cases c6 : x1 = (2 : Int32)
        · have hf := bq_ip c6 hf
          refine lv_tableIn (off := 82) (tgt := 93) hx hb dX1_count_11 (by rw [c6]; decide) (by rw [c6]; decide) (by rw [c6]; rfl) (by decide) ?_
          refine lv_aload_n hx hb dX1_count_93 rfl (lv_at hl 0 rfl) ?_
          obtain ⟨v7, hg, hf⟩ := bq_b1s hf
          refine bq_cV (bs := [bbB d ba ca na ta ka ia β, stB d na σ, bkB d ka na μ, coB d ca dy fa κ, lsB d ca L mc E.1]) (bc := [bbB d ba ca na ta ka ia β, coB d ca dy fa κ, lsB d ca L mc E.1]) (br := [stB d na σ, bkB d ka na μ]) (bc' := [bbB d ba ca na ta ka ia β, coB d ca dy fa κ, lsB d ca L mc E.1]) (bs' := [bbB d ba ca na ta ka ia β, stB d na σ, bkB d ka na μ, coB d ca dy fa κ, lsB d ca L mc E.1]) (As := []) (rest := []) (o := (some (.int v7))) C hkc hks (met_bl_girls hok hamb hL hg) (bq_pm [0, 3, 4, 1, 2] rfl rfl rfl) (bq_pm [0, 3, 4, 1, 2] rfl rfl rfl) (lw_V q979 q981 qs12 q113 q982) (hd_X1_girls) (Nat.le_of_ble_eq_true rfl) (Nat.le_of_ble_eq_true rfl) (va_recv hK hP (ci := 1) (q0 := 0) rfl rfl) rfl hl.1 rfl (Nat.le_of_ble_eq_true rfl) dX1_count_94 hP hD hS (fun H locs hP hD hS => ?_)
          obtain ⟨rfl, rfl⟩ := bq_p2 hf
          exact bq_iretX C hr (by decide) (by decide) hP hD hS dX1_count_97
        · have hf := bq_in c6 hf
          by_cases c8 : x1 = (3 : Int32)
          · have hf := bq_ip c8 hf
            refine lv_tableIn (off := 87) (tgt := 98) hx hb dX1_count_11 (by rw [c8]; decide) (by rw [c8]; decide) (by rw [c8]; rfl) (by decide) ?_
            refine lv_aload_n hx hb dX1_count_98 rfl (lv_at hl 0 rfl) ?_
            refine gX1_get (own := RX1) (fs := (bbF ba ca na ta ka ia β)) (v := .ref (na 0)) hx hb hts hown hK hP (q0 := 0) rfl 3 (Nat.le_of_ble_eq_true rfl) (hts _ q758) rfl dX1_count_99 ?_
            refine gX6_getN (own := RX1) (host := "BlueBag") (fs := (stF na σ)) (v := .int (σ 0 3)) hx hb hts hown hK hP (q0 := 6) rfl 3 (Nat.le_of_ble_eq_true rfl) (bq_nF hamb hm 8 rfl) rfl dX1_count_102 ?_
            obtain ⟨rfl, rfl⟩ := bq_p2 hf
            exact bq_iretX C hr (by decide) (by decide) hP hD hS dX1_count_105
          · have hf := bq_in c8 hf
            by_cases c9 : x1 = (4 : Int32)
            · have hf := bq_ip c9 hf
              refine lv_tableIn (off := 95) (tgt := 106) hx hb dX1_count_11 (by rw [c9]; decide) (by rw [c9]; decide) (by rw [c9]; rfl) (by decide) ?_
              refine lv_aload_n hx hb dX1_count_106 rfl (lv_at hl 0 rfl) ?_
              refine gX1_get (own := RX1) (fs := (bbF ba ca na ta ka ia β)) (v := .ref (na 0)) hx hb hts hown hK hP (q0 := 0) rfl 3 (Nat.le_of_ble_eq_true rfl) (hts _ q758) rfl dX1_count_107 ?_
              refine gX6_getN (own := RX1) (host := "BlueBag") (fs := (stF na σ)) (v := .int (σ 0 4)) hx hb hts hown hK hP (q0 := 6) rfl 4 (Nat.le_of_ble_eq_true rfl) (bq_nF hamb hm 9 rfl) rfl dX1_count_110 ?_
              obtain ⟨rfl, rfl⟩ := bq_p2 hf
              exact bq_iretX C hr (by decide) (by decide) hP hD hS dX1_count_113
            · have hf := bq_in c9 hf
              by_cases c10 : x1 = (5 : Int32)
              · have hf := bq_ip c10 hf
                refine lv_tableIn (off := 103) (tgt := 114) hx hb dX1_count_11 (by rw [c10]; decide) (by rw [c10]; decide) (by rw [c10]; rfl) (by decide) ?_
                refine lv_aload_n hx hb dX1_count_114 rfl (lv_at hl 0 rfl) ?_
                refine gX1_get (own := RX1) (fs := (bbF ba ca na ta ka ia β)) (v := .ref (ca 0)) hx hb hts hown hK hP (q0 := 0) rfl 0 (Nat.le_of_ble_eq_true rfl) (hts _ q755) rfl dX1_count_115 ?_
                refine gX2_getN (own := RX1) (host := "BlueBag") (fs := (coF ca dy fa κ)) (v := .int (κ 0 3)) hx hb hts hown hK hP (q0 := 16) rfl 3 (Nat.le_of_ble_eq_true rfl) (bq_nF hamb hm 10 rfl) rfl dX1_count_118 ?_
                obtain ⟨rfl, rfl⟩ := bq_p2 hf
                exact bq_iretX C hr (by decide) (by decide) hP hD hS dX1_count_121
              · have hf := bq_in c10 hf
                by_cases c11 : x1 = (6 : Int32)
                · have hf := bq_ip c11 hf
                  refine lv_tableIn (off := 111) (tgt := 122) hx hb dX1_count_11 (by rw [c11]; decide) (by rw [c11]; decide) (by rw [c11]; rfl) (by decide) ?_
                  refine lv_aload_n hx hb dX1_count_122 rfl (lv_at hl 0 rfl) ?_
                  refine gX1_get (own := RX1) (fs := (bbF ba ca na ta ka ia β)) (v := .ref (ca 0)) hx hb hts hown hK hP (q0 := 0) rfl 0 (Nat.le_of_ble_eq_true rfl) (hts _ q755) rfl dX1_count_123 ?_
                  refine gX2_getN (own := RX1) (host := "BlueBag") (fs := (coF ca dy fa κ)) (v := .int (κ 0 4)) hx hb hts hown hK hP (q0 := 16) rfl 4 (Nat.le_of_ble_eq_true rfl) (bq_nF hamb hm 11 rfl) rfl dX1_count_126 ?_
                  obtain ⟨rfl, rfl⟩ := bq_p2 hf
                  exact bq_iretX C hr (by decide) (by decide) hP hD hS dX1_count_129
                · have hf := bq_in c11 hf
                  by_cases c12 : x1 = (7 : Int32)
                  · have hf := bq_ip c12 hf
                    refine lv_tableIn (off := 119) (tgt := 130) hx hb dX1_count_11 (by rw [c12]; decide) (by rw [c12]; decide) (by rw [c12]; rfl) (by decide) ?_
                    refine lv_aload_n hx hb dX1_count_130 rfl (lv_at hl 0 rfl) ?_
                    refine gX1_get (own := RX1) (fs := (bbF ba ca na ta ka ia β)) (v := .ref (na 0)) hx hb hts hown hK hP (q0 := 0) rfl 3 (Nat.le_of_ble_eq_true rfl) (hts _ q758) rfl dX1_count_131 ?_
                    refine gX6_getN (own := RX1) (host := "BlueBag") (fs := (stF na σ)) (v := .int (σ 0 5)) hx hb hts hown hK hP (q0 := 6) rfl 5 (Nat.le_of_ble_eq_true rfl) (bq_nF hamb hm 12 rfl) rfl dX1_count_134 ?_
                    obtain ⟨rfl, rfl⟩ := bq_p2 hf
                    exact bq_iretX C hr (by decide) (by decide) hP hD hS dX1_count_137
                  · have hf := bq_in c12 hf
                    by_cases c13 : x1 = (8 : Int32)
                    · have hf := bq_ip c13 hf
                      refine lv_tableIn (off := 127) (tgt := 138) hx hb dX1_count_11 (by rw [c13]; decide) (by rw [c13]; decide) (by rw [c13]; rfl) (by decide) ?_
                      refine lv_aload_n hx hb dX1_count_138 rfl (lv_at hl 0 rfl) ?_
                      refine gX1_get (own := RX1) (fs := (bbF ba ca na ta ka ia β)) (v := .ref (na 0)) hx hb hts hown hK hP (q0 := 0) rfl 3 (Nat.le_of_ble_eq_true rfl) (hts _ q758) rfl dX1_count_139 ?_
                      refine gX6_getN (own := RX1) (host := "BlueBag") (fs := (stF na σ)) (v := .int (σ 0 7)) hx hb hts hown hK hP (q0 := 6) rfl 7 (Nat.le_of_ble_eq_true rfl) (bq_nF hamb hm 13 rfl) rfl dX1_count_142 ?_
                      obtain ⟨rfl, rfl⟩ := bq_p2 hf
                      exact bq_iretX C hr (by decide) (by decide) hP hD hS dX1_count_145
                    · have hf := bq_in c13 hf
                      by_cases c14 : x1 = (9 : Int32)
                      · have hf := bq_ip c14 hf
                        refine lv_tableIn (off := 135) (tgt := 146) hx hb dX1_count_11 (by rw [c14]; decide) (by rw [c14]; decide) (by rw [c14]; rfl) (by decide) ?_
                        refine lv_aload_n hx hb dX1_count_146 rfl (lv_at hl 0 rfl) ?_
                        refine gX1_get (own := RX1) (fs := (bbF ba ca na ta ka ia β)) (v := .ref (na 0)) hx hb hts hown hK hP (q0 := 0) rfl 3 (Nat.le_of_ble_eq_true rfl) (hts _ q758) rfl dX1_count_147 ?_
                        refine gX6_getN (own := RX1) (host := "BlueBag") (fs := (stF na σ)) (v := .int (σ 0 6)) hx hb hts hown hK hP (q0 := 6) rfl 6 (Nat.le_of_ble_eq_true rfl) (bq_nF hamb hm 14 rfl) rfl dX1_count_150 ?_
                        obtain ⟨rfl, rfl⟩ := bq_p2 hf
                        exact bq_iretX C hr (by decide) (by decide) hP hD hS dX1_count_153
                      · have hf := bq_in c14 hf
                        by_cases c15 : x1 = (10 : Int32)
                        · have hf := bq_ip c15 hf
                          refine lv_tableIn (off := 143) (tgt := 154) hx hb dX1_count_11 (by rw [c15]; decide) (by rw [c15]; decide) (by rw [c15]; rfl) (by decide) ?_
                          refine lv_aload_n hx hb dX1_count_154 rfl (lv_at hl 0 rfl) ?_
                          refine gX1_get (own := RX1) (fs := (bbF ba ca na ta ka ia β)) (v := .ref (na 0)) hx hb hts hown hK hP (q0 := 0) rfl 3 (Nat.le_of_ble_eq_true rfl) (hts _ q758) rfl dX1_count_155 ?_
                          refine lv_aload_n hx hb dX1_count_158 rfl (lv_at hl 0 rfl) ?_
                          obtain ⟨v16, hg, hf⟩ := bq_b1s hf
                          refine bq_cV (bs := [bbB d ba ca na ta ka ia β, stB d na σ, bkB d ka na μ, coB d ca dy fa κ, lsB d ca L mc E.1]) (bc := [bbB d ba ca na ta ka ia β, coB d ca dy fa κ]) (br := [stB d na σ, bkB d ka na μ, lsB d ca L mc E.1]) (bc' := [bbB d ba ca na ta ka ia β, coB d ca dy fa κ]) (bs' := [bbB d ba ca na ta ka ia β, stB d na σ, bkB d ka na μ, coB d ca dy fa κ, lsB d ca L mc E.1]) (As := []) (rest := [.ref (na 0)]) (o := (some (.int v16))) C hkc hks (met_bl_cells hok hamb hg) (bq_pm [0, 3, 1, 2, 4] rfl rfl rfl) (bq_pm [0, 2, 3, 1, 4] rfl rfl rfl) (lw_V q990 q992 qs13 q113 q993) (hd_X1_cells) (Nat.le_of_ble_eq_true rfl) (Nat.le_of_ble_eq_true rfl) (va_recv hK hP (ci := 1) (q0 := 0) rfl rfl) rfl hl.1 rfl (Nat.le_of_ble_eq_true rfl) dX1_count_159 hP hD hS (fun H locs hP hD hS => ?_)
                          obtain ⟨v17, hg, hf⟩ := bq_b1s hf
                          refine bq_cV (bs := [bbB d ba ca na ta ka ia β, stB d na σ, bkB d ka na μ, coB d ca dy fa κ, lsB d ca L mc E.1]) (bc := [stB d na σ]) (br := [bbB d ba ca na ta ka ia β, bkB d ka na μ, coB d ca dy fa κ, lsB d ca L mc E.1]) (bc' := [stB d na σ]) (bs' := [bbB d ba ca na ta ka ia β, stB d na σ, bkB d ka na μ, coB d ca dy fa κ, lsB d ca L mc E.1]) (As := [.int v16]) (rest := []) (o := (some (.int v17))) C hkc hks (met_st_all hok hamb hg) (bq_pm [1, 0, 2, 3, 4] rfl rfl rfl) (bq_pm [1, 0, 2, 3, 4] rfl rfl rfl) (lw_V q1412 q1413 q1414 q138 q1415) (hd_X6_all) (Nat.le_of_ble_eq_true rfl) (Nat.le_of_ble_eq_true rfl) (va_recv hK hP (ci := 5) (q0 := 6) rfl rfl) rfl hl.1 rfl (Nat.le_of_ble_eq_true rfl) dX1_count_162 hP hD hS (fun H locs hP hD hS => ?_)
                          obtain ⟨rfl, rfl⟩ := bq_p2 hf
                          exact bq_iretX C hr (by decide) (by decide) hP hD hS dX1_count_165
                        · have hf := bq_in c15 hf
                          by_cases c18 : x1 = (11 : Int32)
                          · have hf := bq_ip c18 hf
                            refine lv_tableIn (off := 155) (tgt := 166) hx hb dX1_count_11 (by rw [c18]; decide) (by rw [c18]; decide) (by rw [c18]; rfl) (by decide) ?_
                            refine lv_aload_n hx hb dX1_count_166 rfl (lv_at hl 0 rfl) ?_
                            refine gX1_get (own := RX1) (fs := (bbF ba ca na ta ka ia β)) (v := .ref (ka 0)) hx hb hts hown hK hP (q0 := 0) rfl 1 (Nat.le_of_ble_eq_true rfl) (hts _ q756) rfl dX1_count_167 ?_
                            refine gX5_getN (own := RX1) (host := "BlueBag") (fs := (bkF ka na μ)) (v := .int (μ 0 6)) hx hb hts hown hK hP (q0 := 11) rfl 6 (Nat.le_of_ble_eq_true rfl) (bq_nF hamb hm 5 rfl) rfl dX1_count_170 ?_
                            obtain ⟨rfl, rfl⟩ := bq_p2 hf
                            exact bq_iretX C hr (by decide) (by decide) hP hD hS dX1_count_173
                          · have hf := bq_in c18 hf
                            by_cases c19 : x1 = (12 : Int32)
                            · have hf := bq_ip c19 hf
                              refine lv_tableIn (off := 163) (tgt := 174) hx hb dX1_count_11 (by rw [c19]; decide) (by rw [c19]; decide) (by rw [c19]; rfl) (by decide) ?_
                              refine lv_aload_n hx hb dX1_count_174 rfl (lv_at hl 0 rfl) ?_
                              refine gX1_get (own := RX1) (fs := (bbF ba ca na ta ka ia β)) (v := .ref (ka 0)) hx hb hts hown hK hP (q0 := 0) rfl 1 (Nat.le_of_ble_eq_true rfl) (hts _ q756) rfl dX1_count_175 ?_
                              refine gX5_getN (own := RX1) (host := "BlueBag") (fs := (bkF ka na μ)) (v := .int (μ 0 7)) hx hb hts hown hK hP (q0 := 11) rfl 7 (Nat.le_of_ble_eq_true rfl) (bq_nF hamb hm 6 rfl) rfl dX1_count_178 ?_
                              obtain ⟨rfl, rfl⟩ := bq_p2 hf
                              exact bq_iretX C hr (by decide) (by decide) hP hD hS dX1_count_181
                            · have hf := bq_in c19 hf
                              by_cases c20 : x1 = (13 : Int32)
                              · have hf := bq_ip c20 hf
                                refine lv_tableIn (off := 171) (tgt := 182) hx hb dX1_count_11 (by rw [c20]; decide) (by rw [c20]; decide) (by rw [c20]; rfl) (by decide) ?_
                                refine lv_aload_n hx hb dX1_count_182 rfl (lv_at hl 0 rfl) ?_
                                refine gX1_get (own := RX1) (fs := (bbF ba ca na ta ka ia β)) (v := .int (β 0 7)) hx hb hts hown hK hP (q0 := 0) rfl 7 (Nat.le_of_ble_eq_true rfl) (hts _ q762) rfl dX1_count_183 ?_
                                obtain ⟨rfl, rfl⟩ := bq_p2 hf
                                exact bq_iretX C hr (by decide) (by decide) hP hD hS dX1_count_186
                              · have hf := bq_in c20 hf
                                refine lv_tableOut (tgt := 187) hx hb dX1_count_11 (bq_tout (lo := 0) (n := 14) (by decide) (lt_s (lt_s (lt_s (lt_s (lt_s (lt_s (lt_s (lt_s (lt_s (lt_s (lt_s (lt_s (lt_s (lt_s lt_0 (lv_neT c3 (by decide))) (lv_neT c5 (by decide))) (lv_neT c6 (by decide))) (lv_neT c8 (by decide))) (lv_neT c9 (by decide))) (lv_neT c10 (by decide))) (lv_neT c11 (by decide))) (lv_neT c12 (by decide))) (lv_neT c13 (by decide))) (lv_neT c14 (by decide))) (lv_neT c15 (by decide))) (lv_neT c18 (by decide))) (lv_neT c19 (by decide))) (lv_neT c20 (by decide)))) (by decide) ?_
                                refine lv_aload_n hx hb dX1_count_187 rfl (lv_at hl 0 rfl) ?_
                                refine gX1_get (own := RX1) (fs := (bbF ba ca na ta ka ia β)) (v := .ref (ka 0)) hx hb hts hown hK hP (q0 := 0) rfl 1 (Nat.le_of_ble_eq_true rfl) (hts _ q756) rfl dX1_count_188 ?_
                                refine gX5_getN (own := RX1) (host := "BlueBag") (fs := (bkF ka na μ)) (v := .ref (ka 4)) hx hb hts hown hK hP (q0 := 11) rfl 5 (Nat.le_of_ble_eq_true rfl) (bq_nF hamb hm 3 rfl) rfl dX1_count_191 ?_
                                refine lv_iload_n hx hb dX1_count_194 rfl (lv_at hl 1 rfl) ?_
                                refine lv_bipush (v := (14 : Int32)) hx hb dX1_count_195 (by decide) ?_
                                refine lv_isub hx hb dX1_count_197 ?_
                                obtain ⟨h21, hf⟩ := bq_cks hf
                                refine bq_ild (j := ((x1 - (14 : Int32)).toNatClampNeg)) (f := μ 4) (q := 0) hx hb hK hP 15 rfl rfl h21 rfl dX1_count_198 ?_
                                obtain ⟨rfl, rfl⟩ := bq_p2 hf
                                exact bq_iretX C hr (by decide) (by decide) hP hD hS dX1_count_199
  · have hf := bq_in ht_ hf
    obtain ⟨rfl, rfl⟩ := bq_p2 hf
    exact bq_prop C hex ht_ (by decide) (by decide)
set_option maxHeartbeats 4000000 in
theorem wk_bl_tries_L13 {p : Program} {e : Env} {R : Room} {s : State} {m : MethodId} {args : Array Value} {below : List Frame} {meth : Method} {c : Code} {A : Nat → Prop} {kc ks : Nat} {Q : State → Prop} {l : Launch} {D : va_G} {am : bqAm} {X vE sE : Nat → Nat} {d : Nat → ClassId} {ba ca ia ka na ta : Nat → Nat} {dy fa : Option Nat} {L : Nat} {mc : Int32} {P : va_W} {F : Nat} {E : bqE} (C : bq_C p R s m args meth c A D bqCl (bqTy d) am cX1_tries 3 RX1 804 24130) (hkc : kc ≤ R.cells) (hks : ks ≤ R.slots) (hamb : bq_Amb am X vE sE) (hE : bq_E P vE dy fa E) (hby : bq_By l D am d ca vE P 400) (hL : E.1 ≤ L ∧ L < 2147483648) {β : bqS} {σ : bqS} {κ : bqS} :
    ∀ (k : Nat) (x1 : Int32) (x2 : Int32) (τ : bqS) (ν : bqS) (τ' : bqS) (ν' : bqS) (H : Heap) (locs : List Loc), bl_tries_L13 F E β σ κ k x1 x2 τ ν = some (τ', ν') → va_P D bqCl (List.flatten ([bbB d ba ca na ta ka ia β, stB d na σ, stB d ta τ, viB d ca ν, coB d ca dy fa κ, lsB d ca L mc E.1, giB ca E.1 κ, P] : List va_W)) H → va_D A (List.flatten ([bbB d ba ca na ta ka ia β, stB d na σ, stB d ta τ, viB d ca ν, coB d ca dy fa κ, lsB d ca L mc E.1, giB ca E.1 κ, P] : List va_W)) → va_S A s.heap H locs → ∀ ls : Array Slot, lv_has ls 3 [(0, .ref (ba 0)), (1, .int x1), (2, .int x2)] →
      (∀ (H : Heap) (locs : List Loc), va_P D bqCl (List.flatten ([bbB d ba ca na ta ka ia β, stB d na σ, stB d ta τ', viB d ca ν', coB d ca dy fa κ, lsB d ca L mc E.1, giB ca E.1 κ, P] : List va_W)) H → va_D A (List.flatten ([bbB d ba ca na ta ka ia β, stB d na σ, stB d ta τ', viB d ca ν', coB d ca dy fa κ, lsB d ca L mc E.1, giB ca E.1 κ, P] : List va_W)) → va_S A s.heap H locs → ∀ ls : Array Slot, lv_has ls 3 [] → W p l e R s m args below meth c H locs kc ks Q (F0 m 35 ls [])) →
      W p l e R s m args below meth c H locs kc ks Q (F0 m 13 ls []) := by
  have C0 := C
  obtain ⟨hx, hb, hown, hts, hml, hlocks, hA, hK, hm, hRf, hRl, hok⟩ := C
  have C := C0
  intro k
  induction k with
  | zero => intro x1 x2 τ ν τ' ν' H locs hf
            cases hf
  | succ k ih =>
    intro x1 x2 τ ν τ' ν' H locs hf hP hD hS ls hl hk0
    rw [bl_tries_L13] at hf
    refine lv_iload_n hx hb dX1_tries_13 rfl (lv_at hl 2 rfl) ?_
    refine lv_iload_n hx hb dX1_tries_14 rfl (lv_at hl 1 rfl) ?_
    refine lv_icmp_ge (tgt := 35) hx hb dX1_tries_15 (by decide) (fun c2 => ?_) (fun c2 => ?_)
    · have hf := bq_ip c2 hf
      obtain ⟨rfl, rfl⟩ := bq_p2 hf
      exact hk0 _ _ hP hD hS ls (lv_sub hl [] rfl)
    · have hf := bq_in c2 hf
      refine lv_aload_n hx hb dX1_tries_18 rfl (lv_at hl 0 rfl) ?_
      refine gX1_get (own := RX1) (fs := (bbF ba ca na ta ka ia β)) (v := .ref (ta 0)) hx hb hts hown hK hP (q0 := 0) rfl 4 (Nat.le_of_ble_eq_true rfl) (hts _ q759) rfl dX1_tries_19 ?_
      refine lv_aload_n hx hb dX1_tries_22 rfl (lv_at hl 0 rfl) ?_
      refine gX1_get (own := RX1) (fs := (bbF ba ca na ta ka ia β)) (v := .ref (ca 0)) hx hb hts hown hK hP (q0 := 0) rfl 0 (Nat.le_of_ble_eq_true rfl) (hts _ q755) rfl dX1_tries_23 ?_
      obtain ⟨τ3, ν4, hg, hf⟩ := bq_b2s hf
      refine bq_cV (bs := [bbB d ba ca na ta ka ia β, stB d na σ, stB d ta τ, viB d ca ν, coB d ca dy fa κ, lsB d ca L mc E.1, giB ca E.1 κ, P]) (bc := [stB d ta τ, viB d ca ν, coB d ca dy fa κ, lsB d ca L mc E.1, giB ca E.1 κ, P]) (br := [bbB d ba ca na ta ka ia β, stB d na σ]) (bc' := [stB d ta τ3, viB d ca ν4, coB d ca dy fa κ, lsB d ca L mc E.1, giB ca E.1 κ, P]) (bs' := [bbB d ba ca na ta ka ia β, stB d na σ, stB d ta τ3, viB d ca ν4, coB d ca dy fa κ, lsB d ca L mc E.1, giB ca E.1 κ, P]) (As := [.ref (ca 0)]) (rest := []) (o := none) C hkc hks (met_st_goes hok hamb hE hby hL hg) (bq_pm [2, 3, 4, 5, 6, 7, 0, 1] rfl rfl rfl) (bq_pm [6, 7, 0, 1, 2, 3, 4, 5] rfl rfl rfl) (lw_V q844 q845 q846 q138 q847) (hd_X6_goes) (Nat.le_of_ble_eq_true rfl) (Nat.le_of_ble_eq_true rfl) (va_recv hK hP (ci := 5) (q0 := 11) rfl rfl) rfl hl.1 rfl (Nat.le_of_ble_eq_true rfl) dX1_tries_26 hP hD hS (fun H locs hP hD hS => ?_)
      obtain ⟨v5, ev5, hf⟩ := bq_lts hf
      refine lv_iinc (v := v5) (lv' := [(2, .int v5), (0, .ref (ba 0)), (1, .int x1)]) hx hb dX1_tries_29 hl (k := 2) rfl (bq_inc (by decide) ev5) (by decide) rfl (fun ls hl => ?_)
      refine lv_goto (tgt := 13) hx hb dX1_tries_32 (by decide) ?_
      exact ih _ _ _ _ _ _ _ _ hf hP hD hS ls (lv_sub hl [1, 2, 0] rfl) hk0
set_option maxHeartbeats 4000000 in
theorem met_bl_tries {l : Launch} {D : va_G} {am : bqAm} {X vE sE : Nat → Nat} {d : Nat → ClassId} {ba ca ia ka na ta : Nat → Nat} {dy fa : Option Nat} {L : Nat} {mc : Int32} {P : va_W} {F : Nat} {E : bqE} {β : bqS} {σ : bqS} {τ : bqS} {ν : bqS} {κ : bqS} {τ' : bqS} {ν' : bqS} {x1 : Int32} (hok : bq_Ok am) (hamb : bq_Amb am X vE sE) (hE : bq_E P vE dy fa E) (hby : bq_By l D am d ca vE P 400) (hL : E.1 ≤ L ∧ L < 2147483648) (hf : bl_tries F E β σ τ ν κ x1 = some (τ', ν')) : bq_M l yX1_tries cX1_tries 3 none 804 24130 D bqCl (bqTy d) am [.ref (ba 0), .int x1] (List.flatten ([bbB d ba ca na ta ka ia β, stB d na σ, stB d ta τ, viB d ca ν, coB d ca dy fa κ, lsB d ca L mc E.1, giB ca E.1 κ, P] : List va_W)) none (List.flatten ([bbB d ba ca na ta ka ia β, stB d na σ, stB d ta τ', viB d ca ν', coB d ca dy fa κ, lsB d ca L mc E.1, giB ca E.1 κ, P] : List va_W)) := by
  unfold bl_tries at hf
  refine bq_of hok (by decide +kernel) (Nat.le_of_ble_eq_true rfl) ?_
  intro p e s m below meth c A ls C hr hP hD hS hl
  have C0 := C
  obtain ⟨hx, hb, hown, hts, hml, hlocks, hA, hK, hm, hRf, hRl, hok⟩ := C
  have C := C0
  have hkc := Nat.zero_le 0
  have hks := Nat.zero_le 0
  have hl : lv_has ls 3 [(0, .ref (ba 0)), (1, .int x1)] := hl
  refine lv_aload_n hx hb dX1_tries_0 rfl (lv_at hl 0 rfl) ?_
  refine gX1_get (own := RX1) (fs := (bbF ba ca na ta ka ia β)) (v := .ref (ta 0)) hx hb hts hown hK hP (q0 := 0) rfl 4 (Nat.le_of_ble_eq_true rfl) (hts _ q759) rfl dX1_tries_1 ?_
  refine lv_aload_n hx hb dX1_tries_4 rfl (lv_at hl 0 rfl) ?_
  refine gX1_get (own := RX1) (fs := (bbF ba ca na ta ka ia β)) (v := .ref (na 0)) hx hb hts hown hK hP (q0 := 0) rfl 3 (Nat.le_of_ble_eq_true rfl) (hts _ q758) rfl dX1_tries_5 ?_
  obtain ⟨τ1, hg, hf⟩ := bq_b1s hf
  refine bq_cV (bs := [bbB d ba ca na ta ka ia β, stB d na σ, stB d ta τ, viB d ca ν, coB d ca dy fa κ, lsB d ca L mc E.1, giB ca E.1 κ, P]) (bc := [stB d ta τ, stB d na σ]) (br := [bbB d ba ca na ta ka ia β, viB d ca ν, coB d ca dy fa κ, lsB d ca L mc E.1, giB ca E.1 κ, P]) (bc' := [stB d ta τ1, stB d na σ]) (bs' := [bbB d ba ca na ta ka ia β, stB d na σ, stB d ta τ1, viB d ca ν, coB d ca dy fa κ, lsB d ca L mc E.1, giB ca E.1 κ, P]) (As := [.ref (na 0)]) (rest := []) (o := none) C hkc hks (met_st_like hok hamb hg) (bq_pm [2, 1, 0, 3, 4, 5, 6, 7] rfl rfl rfl) (bq_pm [2, 1, 0, 3, 4, 5, 6, 7] rfl rfl rfl) (lw_V q954 q836 q837 q138 q838) (hd_X6_like) (Nat.le_of_ble_eq_true rfl) (Nat.le_of_ble_eq_true rfl) (va_recv hK hP (ci := 5) (q0 := 11) rfl rfl) rfl hl.1 rfl (Nat.le_of_ble_eq_true rfl) dX1_tries_8 hP hD hS (fun H locs hP hD hS => ?_)
  refine lv_iconst (v := (0 : Int32)) hx hb dX1_tries_11 (by decide) ?_
  refine lv_istore_n (lv' := [(2, .int (0 : Int32)), (0, .ref (ba 0)), (1, .int x1)]) hx hb dX1_tries_12 rfl hl (by decide) rfl (fun ls hl => ?_)
  obtain ⟨τ6, ν7, hg, hf⟩ := bq_b2s hf
  refine wk_bl_tries_L13 C hkc hks hamb hE hby hL _ _ _ _ _ _ _ _ _ hg hP hD hS ls (lv_sub hl [1, 2, 0] rfl) ?_
  · intro H locs hP hD hS ls hl
    obtain ⟨rfl, rfl⟩ := bq_p2 hf
    exact bq_vret C hr hP hD hS dX1_tries_35
set_option maxHeartbeats 4000000 in
theorem met_bl_then {l : Launch} {D : va_G} {am : bqAm} {X vE sE : Nat → Nat} {d : Nat → ClassId} {ba ca ia ka na ta : Nat → Nat} {dy fa : Option Nat} {L : Nat} {mc : Int32} {P : va_W} {F : Nat} {E : bqE} {β : bqS} {σ : bqS} {τ : bqS} {ν : bqS} {κ : bqS} {τ' : bqS} {ν' : bqS} {r : Int32} {tg : Nat} {x1 : Int32} {x2 : Int32} (hok : bq_Ok am) (hamb : bq_Amb am X vE sE) (hst : l.stackTraces = false) (hE : bq_E P vE dy fa E) (hby : bq_By l D am d ca vE P 400) (hL : E.1 ≤ L ∧ L < 2147483648) (hf : bl_then F E β σ τ ν κ x1 x2 = some (tg, r, τ', ν')) : bq_X l yX1_then cX1_then 3 (some .int) 805 24152 2 12 D bqCl (bqTy d) am [.ref (ba 0), .int x1, .int x2] (List.flatten ([bbB d ba ca na ta ka ia β, stB d na σ, stB d ta τ, viB d ca ν, coB d ca dy fa κ, lsB d ca L mc E.1, giB ca E.1 κ, P] : List va_W)) tg (some (.int r)) (List.flatten ([bbB d ba ca na ta ka ia β, stB d na σ, stB d ta τ', viB d ca ν', coB d ca dy fa κ, lsB d ca L mc E.1, giB ca E.1 κ, P] : List va_W)) := by
  unfold bl_then at hf
  refine bq_ofX hok (by decide +kernel) (Nat.le_of_ble_eq_true rfl) ?_
  intro p e s m below meth c A ls C hr hex hP hD hS hl
  have C0 := C
  obtain ⟨hx, hb, hown, hts, hml, hlocks, hA, hK, hm, hRf, hRl, hok⟩ := C
  have C := C0
  have hkc := Nat.zero_le 2
  have hks := Nat.zero_le 12
  have hl : lv_has ls 3 [(0, .ref (ba 0)), (1, .int x1), (2, .int x2)] := hl
  refine lv_aload_n hx hb dX1_then_0 rfl (lv_at hl 0 rfl) ?_
  refine lv_iload_n hx hb dX1_then_1 rfl (lv_at hl 1 rfl) ?_
  obtain ⟨t1, hg, hf⟩ := bq_b1s hf
  refine bq_cVX (bs := [bbB d ba ca na ta ka ia β, stB d na σ, stB d ta τ, viB d ca ν, coB d ca dy fa κ, lsB d ca L mc E.1, giB ca E.1 κ, P]) (bc := [bbB d ba ca na ta ka ia β, coB d ca dy fa κ]) (br := [stB d na σ, stB d ta τ, viB d ca ν, lsB d ca L mc E.1, giB ca E.1 κ, P]) (bc' := [bbB d ba ca na ta ka ia β, coB d ca dy fa κ]) (bs' := [bbB d ba ca na ta ka ia β, stB d na σ, stB d ta τ, viB d ca ν, coB d ca dy fa κ, lsB d ca L mc E.1, giB ca E.1 κ, P]) (As := [.int x1]) (rest := []) (o := none) C (Nat.le_of_ble_eq_true rfl) (Nat.le_of_ble_eq_true rfl) (met_bl_cellAt hok hamb hst hg) (bq_pm [0, 4, 1, 2, 3, 5, 6, 7] rfl rfl rfl) (bq_pm [0, 2, 3, 4, 1, 5, 6, 7] rfl rfl rfl) (lw_V q1423 q1425 qs35 q113 q1426) (hd_X1_cellAt) (Nat.le_of_ble_eq_true rfl) (Nat.le_of_ble_eq_true rfl) (va_recv hK hP (ci := 1) (q0 := 0) rfl rfl) rfl hl.1 rfl (Nat.le_of_ble_eq_true rfl) dX1_then_2 hP hD hS (fun ht_ H locs hP hD hS => ?_) (fun ht_ => ?_)
  · have hf := bq_ip ht_ hf
    have hkc : 1 ≤ 2 := by decide
    have hks : 6 ≤ 12 := by decide
    refine lv_iload_n hx hb dX1_then_5 rfl (lv_at hl 2 rfl) ?_
    refine lv_iconst (v := (0 : Int32)) hx hb dX1_then_6 (by decide) ?_
    refine lv_bipush (v := (40 : Int32)) hx hb dX1_then_7 (by decide) ?_
    obtain ⟨v2, hg, hf⟩ := bq_b1s hf
    refine bq_cS (bs := [bbB d ba ca na ta ka ia β, stB d na σ, stB d ta τ, viB d ca ν, coB d ca dy fa κ, lsB d ca L mc E.1, giB ca E.1 κ, P]) (bc := []) (br := [bbB d ba ca na ta ka ia β, stB d na σ, stB d ta τ, viB d ca ν, coB d ca dy fa κ, lsB d ca L mc E.1, giB ca E.1 κ, P]) (bc' := []) (bs' := [bbB d ba ca na ta ka ia β, stB d na σ, stB d ta τ, viB d ca ν, coB d ca dy fa κ, lsB d ca L mc E.1, giB ca E.1 κ, P]) (As := [.int x2, .int (0 : Int32), .int (40 : Int32)]) (rest := []) (o := (some (.int v2))) C hkc hks (met_bl_within hok hg) (bq_pm [0, 1, 2, 3, 4, 5, 6, 7] rfl rfl rfl) (bq_pm [0, 1, 2, 3, 4, 5, 6, 7] rfl rfl rfl) (lw_S q814 q815 q113 q816) (hd_X1_within) (Nat.le_of_ble_eq_true rfl) (Nat.le_of_ble_eq_true rfl) rfl hl.1 rfl (Nat.le_of_ble_eq_true rfl) dX1_then_9 hP hD hS (fun H locs hP hD hS => ?_)
    obtain ⟨t3, hg, hf⟩ := bq_b1s hf
    refine bq_cSX (bs := [bbB d ba ca na ta ka ia β, stB d na σ, stB d ta τ, viB d ca ν, coB d ca dy fa κ, lsB d ca L mc E.1, giB ca E.1 κ, P]) (bc := []) (br := [bbB d ba ca na ta ka ia β, stB d na σ, stB d ta τ, viB d ca ν, coB d ca dy fa κ, lsB d ca L mc E.1, giB ca E.1 κ, P]) (bc' := []) (bs' := [bbB d ba ca na ta ka ia β, stB d na σ, stB d ta τ, viB d ca ν, coB d ca dy fa κ, lsB d ca L mc E.1, giB ca E.1 κ, P]) (As := [.int v2]) (rest := []) (o := none) C (Nat.le_of_ble_eq_true rfl) (Nat.le_of_ble_eq_true rfl) (met_bl_right hok hamb hst hg) (bq_pm [0, 1, 2, 3, 4, 5, 6, 7] rfl rfl rfl) (bq_pm [0, 1, 2, 3, 4, 5, 6, 7] rfl rfl rfl) (lw_S q1021 q1022 q113 q1023) (hd_X1_right) (Nat.le_of_ble_eq_true rfl) (Nat.le_of_ble_eq_true rfl) rfl hl.1 rfl (Nat.le_of_ble_eq_true rfl) dX1_then_12 hP hD hS (fun ht_ H locs hP hD hS => ?_) (fun ht_ => ?_)
    · have hf := bq_ip ht_ hf
      have hkc : 2 ≤ 2 := by decide
      have hks : 12 ≤ 12 := by decide
      refine lv_aload_n hx hb dX1_then_15 rfl (lv_at hl 0 rfl) ?_
      refine lv_iload_n hx hb dX1_then_16 rfl (lv_at hl 2 rfl) ?_
      obtain ⟨τ4, ν5, hg, hf⟩ := bq_b2s hf
      refine bq_cV (bs := [bbB d ba ca na ta ka ia β, stB d na σ, stB d ta τ, viB d ca ν, coB d ca dy fa κ, lsB d ca L mc E.1, giB ca E.1 κ, P]) (bc := [bbB d ba ca na ta ka ia β, stB d na σ, stB d ta τ, viB d ca ν, coB d ca dy fa κ, lsB d ca L mc E.1, giB ca E.1 κ, P]) (br := []) (bc' := [bbB d ba ca na ta ka ia β, stB d na σ, stB d ta τ4, viB d ca ν5, coB d ca dy fa κ, lsB d ca L mc E.1, giB ca E.1 κ, P]) (bs' := [bbB d ba ca na ta ka ia β, stB d na σ, stB d ta τ4, viB d ca ν5, coB d ca dy fa κ, lsB d ca L mc E.1, giB ca E.1 κ, P]) (As := [.int x2]) (rest := []) (o := none) C hkc hks (met_bl_tries hok hamb hE hby hL hg) (bq_pm [0, 1, 2, 3, 4, 5, 6, 7] rfl rfl rfl) (bq_pm [0, 1, 2, 3, 4, 5, 6, 7] rfl rfl rfl) (lw_V q959 q961 qs10 q113 q962) (hd_X1_tries) (Nat.le_of_ble_eq_true rfl) (Nat.le_of_ble_eq_true rfl) (va_recv hK hP (ci := 1) (q0 := 0) rfl rfl) rfl hl.1 rfl (Nat.le_of_ble_eq_true rfl) dX1_then_17 hP hD hS (fun H locs hP hD hS => ?_)
      refine lv_aload_n hx hb dX1_then_20 rfl (lv_at hl 0 rfl) ?_
      refine gX1_get (own := RX1) (fs := (bbF ba ca na ta ka ia β)) (v := .ref (ta 0)) hx hb hts hown hK hP (q0 := 0) rfl 4 (Nat.le_of_ble_eq_true rfl) (hts _ q759) rfl dX1_then_21 ?_
      refine gX6_getN (own := RX1) (host := "BlueBag") (fs := (stF ta τ4)) (v := .ref (ta 1)) hx hb hts hown hK hP (q0 := 11) rfl 0 (Nat.le_of_ble_eq_true rfl) (bq_nF hamb hm 15 rfl) rfl dX1_then_24 ?_
      refine lv_iload_n hx hb dX1_then_27 rfl (lv_at hl 1 rfl) ?_
      obtain ⟨h6, hf⟩ := bq_cks hf
      refine bq_ild (j := x1.toNatClampNeg) (f := τ4 1) (q := 0) hx hb hK hP 12 rfl rfl h6 rfl dX1_then_28 ?_
      obtain ⟨rfl, rfl, rfl, rfl⟩ := bq_p4 hf
      exact bq_iretX C hr (by decide) (by decide) hP hD hS dX1_then_29
    · have hf := bq_in ht_ hf
      obtain ⟨rfl, rfl, rfl, rfl⟩ := bq_p4 hf
      exact bq_prop C hex ht_ (by decide) (by decide)
  · have hf := bq_in ht_ hf
    obtain ⟨rfl, rfl, rfl, rfl⟩ := bq_p4 hf
    exact bq_prop C hex ht_ (by decide) (by decide)
set_option maxHeartbeats 4000000 in
theorem met_bl_sky {l : Launch} {D : va_G} {am : bqAm} {X vE sE : Nat → Nat} {d : Nat → ClassId} {ba ca ia ka na ta : Nat → Nat} {dy fa : Option Nat} {L : Nat} {mc : Int32} {P : va_W} {F : Nat} {E : bqE} {β : bqS} {σ : bqS} {τ : bqS} {ν : bqS} {κ : bqS} {τ' : bqS} {ν' : bqS} {r : Int32} {tg : Nat} {x1 : Int32} {x2 : Int32} (hok : bq_Ok am) (hamb : bq_Amb am X vE sE) (hst : l.stackTraces = false) (hE : bq_E P vE dy fa E) (hby : bq_By l D am d ca vE P 400) (hL : E.1 ≤ L ∧ L < 2147483648) (hf : bl_sky F E β σ τ ν κ x1 x2 = some (tg, r, τ', ν')) : bq_X l yX1_sky cX1_sky 3 (some .int) 805 24152 2 12 D bqCl (bqTy d) am [.ref (ba 0), .int x1, .int x2] (List.flatten ([bbB d ba ca na ta ka ia β, stB d na σ, stB d ta τ, viB d ca ν, coB d ca dy fa κ, lsB d ca L mc E.1, giB ca E.1 κ, P] : List va_W)) tg (some (.int r)) (List.flatten ([bbB d ba ca na ta ka ia β, stB d na σ, stB d ta τ', viB d ca ν', coB d ca dy fa κ, lsB d ca L mc E.1, giB ca E.1 κ, P] : List va_W)) := by
  unfold bl_sky at hf
  refine bq_ofX hok (by decide +kernel) (Nat.le_of_ble_eq_true rfl) ?_
  intro p e s m below meth c A ls C hr hex hP hD hS hl
  have C0 := C
  obtain ⟨hx, hb, hown, hts, hml, hlocks, hA, hK, hm, hRf, hRl, hok⟩ := C
  have C := C0
  have hkc := Nat.zero_le 2
  have hks := Nat.zero_le 12
  have hl : lv_has ls 3 [(0, .ref (ba 0)), (1, .int x1), (2, .int x2)] := hl
  refine lv_iload_n hx hb dX1_sky_0 rfl (lv_at hl 2 rfl) ?_
  refine lv_iconst (v := (0 : Int32)) hx hb dX1_sky_1 (by decide) ?_
  refine lv_iconst (v := (4 : Int32)) hx hb dX1_sky_2 (by decide) ?_
  obtain ⟨v1, hg, hf⟩ := bq_b1s hf
  refine bq_cS (bs := [bbB d ba ca na ta ka ia β, stB d na σ, stB d ta τ, viB d ca ν, coB d ca dy fa κ, lsB d ca L mc E.1, giB ca E.1 κ, P]) (bc := []) (br := [bbB d ba ca na ta ka ia β, stB d na σ, stB d ta τ, viB d ca ν, coB d ca dy fa κ, lsB d ca L mc E.1, giB ca E.1 κ, P]) (bc' := []) (bs' := [bbB d ba ca na ta ka ia β, stB d na σ, stB d ta τ, viB d ca ν, coB d ca dy fa κ, lsB d ca L mc E.1, giB ca E.1 κ, P]) (As := [.int x2, .int (0 : Int32), .int (4 : Int32)]) (rest := []) (o := (some (.int v1))) C hkc hks (met_bl_within hok hg) (bq_pm [0, 1, 2, 3, 4, 5, 6, 7] rfl rfl rfl) (bq_pm [0, 1, 2, 3, 4, 5, 6, 7] rfl rfl rfl) (lw_S q814 q815 q113 q816) (hd_X1_within) (Nat.le_of_ble_eq_true rfl) (Nat.le_of_ble_eq_true rfl) rfl hl.1 rfl (Nat.le_of_ble_eq_true rfl) dX1_sky_3 hP hD hS (fun H locs hP hD hS => ?_)
  obtain ⟨t2, hg, hf⟩ := bq_b1s hf
  refine bq_cSX (bs := [bbB d ba ca na ta ka ia β, stB d na σ, stB d ta τ, viB d ca ν, coB d ca dy fa κ, lsB d ca L mc E.1, giB ca E.1 κ, P]) (bc := []) (br := [bbB d ba ca na ta ka ia β, stB d na σ, stB d ta τ, viB d ca ν, coB d ca dy fa κ, lsB d ca L mc E.1, giB ca E.1 κ, P]) (bc' := []) (bs' := [bbB d ba ca na ta ka ia β, stB d na σ, stB d ta τ, viB d ca ν, coB d ca dy fa κ, lsB d ca L mc E.1, giB ca E.1 κ, P]) (As := [.int v1]) (rest := []) (o := none) C (Nat.le_of_ble_eq_true rfl) (Nat.le_of_ble_eq_true rfl) (met_bl_there hok hamb hst hg) (bq_pm [0, 1, 2, 3, 4, 5, 6, 7] rfl rfl rfl) (bq_pm [0, 1, 2, 3, 4, 5, 6, 7] rfl rfl rfl) (lw_S q1394 q1395 q113 q1396) (hd_X1_there) (Nat.le_of_ble_eq_true rfl) (Nat.le_of_ble_eq_true rfl) rfl hl.1 rfl (Nat.le_of_ble_eq_true rfl) dX1_sky_6 hP hD hS (fun ht_ H locs hP hD hS => ?_) (fun ht_ => ?_)
  · have hf := bq_ip ht_ hf
    have hkc : 1 ≤ 2 := by decide
    have hks : 6 ≤ 12 := by decide
    refine lv_iload_n hx hb dX1_sky_9 rfl (lv_at hl 1 rfl) ?_
    refine lv_iconst (v := (0 : Int32)) hx hb dX1_sky_10 (by decide) ?_
    refine lv_bipush (v := (40 : Int32)) hx hb dX1_sky_11 (by decide) ?_
    obtain ⟨v3, hg, hf⟩ := bq_b1s hf
    refine bq_cS (bs := [bbB d ba ca na ta ka ia β, stB d na σ, stB d ta τ, viB d ca ν, coB d ca dy fa κ, lsB d ca L mc E.1, giB ca E.1 κ, P]) (bc := []) (br := [bbB d ba ca na ta ka ia β, stB d na σ, stB d ta τ, viB d ca ν, coB d ca dy fa κ, lsB d ca L mc E.1, giB ca E.1 κ, P]) (bc' := []) (bs' := [bbB d ba ca na ta ka ia β, stB d na σ, stB d ta τ, viB d ca ν, coB d ca dy fa κ, lsB d ca L mc E.1, giB ca E.1 κ, P]) (As := [.int x1, .int (0 : Int32), .int (40 : Int32)]) (rest := []) (o := (some (.int v3))) C hkc hks (met_bl_within hok hg) (bq_pm [0, 1, 2, 3, 4, 5, 6, 7] rfl rfl rfl) (bq_pm [0, 1, 2, 3, 4, 5, 6, 7] rfl rfl rfl) (lw_S q814 q815 q113 q816) (hd_X1_within) (Nat.le_of_ble_eq_true rfl) (Nat.le_of_ble_eq_true rfl) rfl hl.1 rfl (Nat.le_of_ble_eq_true rfl) dX1_sky_13 hP hD hS (fun H locs hP hD hS => ?_)
    obtain ⟨t4, hg, hf⟩ := bq_b1s hf
    refine bq_cSX (bs := [bbB d ba ca na ta ka ia β, stB d na σ, stB d ta τ, viB d ca ν, coB d ca dy fa κ, lsB d ca L mc E.1, giB ca E.1 κ, P]) (bc := []) (br := [bbB d ba ca na ta ka ia β, stB d na σ, stB d ta τ, viB d ca ν, coB d ca dy fa κ, lsB d ca L mc E.1, giB ca E.1 κ, P]) (bc' := []) (bs' := [bbB d ba ca na ta ka ia β, stB d na σ, stB d ta τ, viB d ca ν, coB d ca dy fa κ, lsB d ca L mc E.1, giB ca E.1 κ, P]) (As := [.int v3]) (rest := []) (o := none) C (Nat.le_of_ble_eq_true rfl) (Nat.le_of_ble_eq_true rfl) (met_bl_right hok hamb hst hg) (bq_pm [0, 1, 2, 3, 4, 5, 6, 7] rfl rfl rfl) (bq_pm [0, 1, 2, 3, 4, 5, 6, 7] rfl rfl rfl) (lw_S q1021 q1022 q113 q1023) (hd_X1_right) (Nat.le_of_ble_eq_true rfl) (Nat.le_of_ble_eq_true rfl) rfl hl.1 rfl (Nat.le_of_ble_eq_true rfl) dX1_sky_16 hP hD hS (fun ht_ H locs hP hD hS => ?_) (fun ht_ => ?_)
    · have hf := bq_ip ht_ hf
      have hkc : 2 ≤ 2 := by decide
      have hks : 12 ≤ 12 := by decide
      refine lv_aload_n hx hb dX1_sky_19 rfl (lv_at hl 0 rfl) ?_
      refine lv_iload_n hx hb dX1_sky_20 rfl (lv_at hl 1 rfl) ?_
      obtain ⟨τ5, ν6, hg, hf⟩ := bq_b2s hf
      refine bq_cV (bs := [bbB d ba ca na ta ka ia β, stB d na σ, stB d ta τ, viB d ca ν, coB d ca dy fa κ, lsB d ca L mc E.1, giB ca E.1 κ, P]) (bc := [bbB d ba ca na ta ka ia β, stB d na σ, stB d ta τ, viB d ca ν, coB d ca dy fa κ, lsB d ca L mc E.1, giB ca E.1 κ, P]) (br := []) (bc' := [bbB d ba ca na ta ka ia β, stB d na σ, stB d ta τ5, viB d ca ν6, coB d ca dy fa κ, lsB d ca L mc E.1, giB ca E.1 κ, P]) (bs' := [bbB d ba ca na ta ka ia β, stB d na σ, stB d ta τ5, viB d ca ν6, coB d ca dy fa κ, lsB d ca L mc E.1, giB ca E.1 κ, P]) (As := [.int x1]) (rest := []) (o := none) C hkc hks (met_bl_tries hok hamb hE hby hL hg) (bq_pm [0, 1, 2, 3, 4, 5, 6, 7] rfl rfl rfl) (bq_pm [0, 1, 2, 3, 4, 5, 6, 7] rfl rfl rfl) (lw_V q959 q961 qs10 q113 q962) (hd_X1_tries) (Nat.le_of_ble_eq_true rfl) (Nat.le_of_ble_eq_true rfl) (va_recv hK hP (ci := 1) (q0 := 0) rfl rfl) rfl hl.1 rfl (Nat.le_of_ble_eq_true rfl) dX1_sky_21 hP hD hS (fun H locs hP hD hS => ?_)
      refine lv_iload_n hx hb dX1_sky_24 rfl (lv_at hl 2 rfl) ?_
      refine lv_if_ne (tgt := 38) hx hb dX1_sky_25 (by decide) (fun c7 => ?_) (fun c7 => ?_)
      · have hf := bq_in c7 hf
        refine lv_iload_n hx hb dX1_sky_38 rfl (lv_at hl 2 rfl) ?_
        refine lv_iconst (v := (1 : Int32)) hx hb dX1_sky_39 (by decide) ?_
        refine lv_icmp_ne (tgt := 53) hx hb dX1_sky_40 (by decide) (fun c8 => ?_) (fun c8 => ?_)
        · have hf := bq_in c8 hf
          refine lv_iload_n hx hb dX1_sky_53 rfl (lv_at hl 2 rfl) ?_
          refine lv_iconst (v := (2 : Int32)) hx hb dX1_sky_54 (by decide) ?_
          refine lv_icmp_ne (tgt := 72) hx hb dX1_sky_55 (by decide) (fun c9 => ?_) (fun c9 => ?_)
          · have hf := bq_in c9 hf
            refine lv_aload_n hx hb dX1_sky_72 rfl (lv_at hl 0 rfl) ?_
            refine gX1_get (own := RX1) (fs := (bbF ba ca na ta ka ia β)) (v := .ref (ta 0)) hx hb hts hown hK hP (q0 := 0) rfl 4 (Nat.le_of_ble_eq_true rfl) (hts _ q759) rfl dX1_sky_73 ?_
            refine lv_aload_n hx hb dX1_sky_76 rfl (lv_at hl 0 rfl) ?_
            refine gX1_get (own := RX1) (fs := (bbF ba ca na ta ka ia β)) (v := .ref (ca 0)) hx hb hts hown hK hP (q0 := 0) rfl 0 (Nat.le_of_ble_eq_true rfl) (hts _ q755) rfl dX1_sky_77 ?_
            refine lv_iload_n hx hb dX1_sky_80 rfl (lv_at hl 2 rfl) ?_
            refine lv_iconst (v := (3 : Int32)) hx hb dX1_sky_81 (by decide) ?_
            refine lv_icmp_ne (tgt := 89) hx hb dX1_sky_82 (by decide) (fun c10 => ?_) (fun c10 => ?_)
            · have hf := bq_in c10 hf
              refine lv_iconst (v := (0 : Int32)) hx hb dX1_sky_89 (by decide) ?_
              obtain ⟨v11, hg, hf⟩ := bq_b1s hf
              refine bq_cV (bs := [bbB d ba ca na ta ka ia β, stB d na σ, stB d ta τ5, viB d ca ν6, coB d ca dy fa κ, lsB d ca L mc E.1, giB ca E.1 κ, P]) (bc := [stB d ta τ5, coB d ca dy fa κ]) (br := [bbB d ba ca na ta ka ia β, stB d na σ, viB d ca ν6, lsB d ca L mc E.1, giB ca E.1 κ, P]) (bc' := [stB d ta τ5, coB d ca dy fa κ]) (bs' := [bbB d ba ca na ta ka ia β, stB d na σ, stB d ta τ5, viB d ca ν6, coB d ca dy fa κ, lsB d ca L mc E.1, giB ca E.1 κ, P]) (As := [.ref (ca 0), .int (0 : Int32)]) (rest := []) (o := (some (.int v11))) C hkc hks (met_st_extreme hok hamb hg) (bq_pm [2, 4, 0, 1, 3, 5, 6, 7] rfl rfl rfl) (bq_pm [2, 3, 0, 4, 1, 5, 6, 7] rfl rfl rfl) (lw_V q1496 q976 q977 q138 q978) (hd_X6_extreme) (Nat.le_of_ble_eq_true rfl) (Nat.le_of_ble_eq_true rfl) (va_recv hK hP (ci := 5) (q0 := 11) rfl rfl) rfl hl.1 rfl (Nat.le_of_ble_eq_true rfl) dX1_sky_90 hP hD hS (fun H locs hP hD hS => ?_)
              obtain ⟨rfl, rfl, rfl, rfl⟩ := bq_p4 hf
              exact bq_iretX C hr (by decide) (by decide) hP hD hS dX1_sky_93
            · have hf := bq_ip c10 hf
              refine lv_iconst (v := (1 : Int32)) hx hb dX1_sky_85 (by decide) ?_
              refine lv_goto (tgt := 90) hx hb dX1_sky_86 (by decide) ?_
              obtain ⟨v12, hg, hf⟩ := bq_b1s hf
              refine bq_cV (bs := [bbB d ba ca na ta ka ia β, stB d na σ, stB d ta τ5, viB d ca ν6, coB d ca dy fa κ, lsB d ca L mc E.1, giB ca E.1 κ, P]) (bc := [stB d ta τ5, coB d ca dy fa κ]) (br := [bbB d ba ca na ta ka ia β, stB d na σ, viB d ca ν6, lsB d ca L mc E.1, giB ca E.1 κ, P]) (bc' := [stB d ta τ5, coB d ca dy fa κ]) (bs' := [bbB d ba ca na ta ka ia β, stB d na σ, stB d ta τ5, viB d ca ν6, coB d ca dy fa κ, lsB d ca L mc E.1, giB ca E.1 κ, P]) (As := [.ref (ca 0), .int (1 : Int32)]) (rest := []) (o := (some (.int v12))) C hkc hks (met_st_extreme hok hamb hg) (bq_pm [2, 4, 0, 1, 3, 5, 6, 7] rfl rfl rfl) (bq_pm [2, 3, 0, 4, 1, 5, 6, 7] rfl rfl rfl) (lw_V q1496 q976 q977 q138 q978) (hd_X6_extreme) (Nat.le_of_ble_eq_true rfl) (Nat.le_of_ble_eq_true rfl) (va_recv hK hP (ci := 5) (q0 := 11) rfl rfl) rfl hl.1 rfl (Nat.le_of_ble_eq_true rfl) dX1_sky_90 hP hD hS (fun H locs hP hD hS => ?_)
              obtain ⟨rfl, rfl, rfl, rfl⟩ := bq_p4 hf
              exact bq_iretX C hr (by decide) (by decide) hP hD hS dX1_sky_93
          · have hf := bq_ip c9 hf
            refine lv_aload_n hx hb dX1_sky_58 rfl (lv_at hl 0 rfl) ?_
            refine gX1_get (own := RX1) (fs := (bbF ba ca na ta ka ia β)) (v := .ref (ta 0)) hx hb hts hown hK hP (q0 := 0) rfl 4 (Nat.le_of_ble_eq_true rfl) (hts _ q759) rfl dX1_sky_59 ?_
            refine lv_aload_n hx hb dX1_sky_62 rfl (lv_at hl 0 rfl) ?_
            refine gX1_get (own := RX1) (fs := (bbF ba ca na ta ka ia β)) (v := .ref (ca 0)) hx hb hts hown hK hP (q0 := 0) rfl 0 (Nat.le_of_ble_eq_true rfl) (hts _ q755) rfl dX1_sky_63 ?_
            obtain ⟨v13, hg, hf⟩ := bq_b1s hf
            refine bq_cV (bs := [bbB d ba ca na ta ka ia β, stB d na σ, stB d ta τ5, viB d ca ν6, coB d ca dy fa κ, lsB d ca L mc E.1, giB ca E.1 κ, P]) (bc := [stB d ta τ5, coB d ca dy fa κ]) (br := [bbB d ba ca na ta ka ia β, stB d na σ, viB d ca ν6, lsB d ca L mc E.1, giB ca E.1 κ, P]) (bc' := [stB d ta τ5, coB d ca dy fa κ]) (bs' := [bbB d ba ca na ta ka ia β, stB d na σ, stB d ta τ5, viB d ca ν6, coB d ca dy fa κ, lsB d ca L mc E.1, giB ca E.1 κ, P]) (As := [.ref (ca 0)]) (rest := []) (o := (some (.int v13))) C hkc hks (met_st_uneven hok hamb hg) (bq_pm [2, 4, 0, 1, 3, 5, 6, 7] rfl rfl rfl) (bq_pm [2, 3, 0, 4, 1, 5, 6, 7] rfl rfl rfl) (lw_V q971 q972 q973 q138 q974) (hd_X6_uneven) (Nat.le_of_ble_eq_true rfl) (Nat.le_of_ble_eq_true rfl) (va_recv hK hP (ci := 5) (q0 := 11) rfl rfl) rfl hl.1 rfl (Nat.le_of_ble_eq_true rfl) dX1_sky_66 hP hD hS (fun H locs hP hD hS => ?_)
            refine lv_goto (tgt := 93) hx hb dX1_sky_69 (by decide) ?_
            obtain ⟨rfl, rfl, rfl, rfl⟩ := bq_p4 hf
            exact bq_iretX C hr (by decide) (by decide) hP hD hS dX1_sky_93
        · have hf := bq_ip c8 hf
          refine lv_aload_n hx hb dX1_sky_43 rfl (lv_at hl 0 rfl) ?_
          refine gX1_get (own := RX1) (fs := (bbF ba ca na ta ka ia β)) (v := .ref (ta 0)) hx hb hts hown hK hP (q0 := 0) rfl 4 (Nat.le_of_ble_eq_true rfl) (hts _ q759) rfl dX1_sky_44 ?_
          refine gX6_getN (own := RX1) (host := "BlueBag") (fs := (stF ta τ5)) (v := .int (τ5 0 5)) hx hb hts hown hK hP (q0 := 11) rfl 5 (Nat.le_of_ble_eq_true rfl) (bq_nF hamb hm 12 rfl) rfl dX1_sky_47 ?_
          refine lv_goto (tgt := 93) hx hb dX1_sky_50 (by decide) ?_
          obtain ⟨rfl, rfl, rfl, rfl⟩ := bq_p4 hf
          exact bq_iretX C hr (by decide) (by decide) hP hD hS dX1_sky_93
      · have hf := bq_ip c7 hf
        refine lv_aload_n hx hb dX1_sky_28 rfl (lv_at hl 0 rfl) ?_
        refine gX1_get (own := RX1) (fs := (bbF ba ca na ta ka ia β)) (v := .ref (ta 0)) hx hb hts hown hK hP (q0 := 0) rfl 4 (Nat.le_of_ble_eq_true rfl) (hts _ q759) rfl dX1_sky_29 ?_
        refine gX6_getN (own := RX1) (host := "BlueBag") (fs := (stF ta τ5)) (v := .int (τ5 0 4)) hx hb hts hown hK hP (q0 := 11) rfl 4 (Nat.le_of_ble_eq_true rfl) (bq_nF hamb hm 9 rfl) rfl dX1_sky_32 ?_
        refine lv_goto (tgt := 93) hx hb dX1_sky_35 (by decide) ?_
        obtain ⟨rfl, rfl, rfl, rfl⟩ := bq_p4 hf
        exact bq_iretX C hr (by decide) (by decide) hP hD hS dX1_sky_93
    · have hf := bq_in ht_ hf
      obtain ⟨rfl, rfl, rfl, rfl⟩ := bq_p4 hf
      exact bq_prop C hex ht_ (by decide) (by decide)
  · have hf := bq_in ht_ hf
    obtain ⟨rfl, rfl, rfl, rfl⟩ := bq_p4 hf
    exact bq_prop C hex ht_ (by decide) (by decide)
set_option maxHeartbeats 4000000 in
theorem met_bl_overdone {l : Launch} {D : va_G} {am : bqAm} {X vE sE : Nat → Nat} {d : Nat → ClassId} {ba ca ia ka na ta : Nat → Nat} {dy fa : Option Nat} {L : Nat} {mc : Int32} {P : va_W} {F : Nat} {E : bqE} {β : bqS} {σ : bqS} {τ : bqS} {ν : bqS} {κ : bqS} {τ' : bqS} {ν' : bqS} {r : Int32} {tg : Nat} {x1 : Int32} (hok : bq_Ok am) (hamb : bq_Amb am X vE sE) (hst : l.stackTraces = false) (hE : bq_E P vE dy fa E) (hby : bq_By l D am d ca vE P 400) (hL : E.1 ≤ L ∧ L < 2147483648) (hf : bl_overdone F E β σ τ ν κ x1 = some (tg, r, τ', ν')) : bq_X l yX1_overdone cX1_overdone 2 (some .int) 805 24152 1 6 D bqCl (bqTy d) am [.ref (ba 0), .int x1] (List.flatten ([bbB d ba ca na ta ka ia β, stB d na σ, stB d ta τ, viB d ca ν, coB d ca dy fa κ, lsB d ca L mc E.1, giB ca E.1 κ, P] : List va_W)) tg (some (.int r)) (List.flatten ([bbB d ba ca na ta ka ia β, stB d na σ, stB d ta τ', viB d ca ν', coB d ca dy fa κ, lsB d ca L mc E.1, giB ca E.1 κ, P] : List va_W)) := by
  unfold bl_overdone at hf
  refine bq_ofX hok (by decide +kernel) (Nat.le_of_ble_eq_true rfl) ?_
  intro p e s m below meth c A ls C hr hex hP hD hS hl
  have C0 := C
  obtain ⟨hx, hb, hown, hts, hml, hlocks, hA, hK, hm, hRf, hRl, hok⟩ := C
  have C := C0
  have hkc := Nat.zero_le 1
  have hks := Nat.zero_le 6
  have hl : lv_has ls 2 [(0, .ref (ba 0)), (1, .int x1)] := hl
  refine lv_iload_n hx hb dX1_overdone_0 rfl (lv_at hl 1 rfl) ?_
  refine lv_iconst (v := (1 : Int32)) hx hb dX1_overdone_1 (by decide) ?_
  refine lv_bipush (v := (40 : Int32)) hx hb dX1_overdone_2 (by decide) ?_
  obtain ⟨v1, hg, hf⟩ := bq_b1s hf
  refine bq_cS (bs := [bbB d ba ca na ta ka ia β, stB d na σ, stB d ta τ, viB d ca ν, coB d ca dy fa κ, lsB d ca L mc E.1, giB ca E.1 κ, P]) (bc := []) (br := [bbB d ba ca na ta ka ia β, stB d na σ, stB d ta τ, viB d ca ν, coB d ca dy fa κ, lsB d ca L mc E.1, giB ca E.1 κ, P]) (bc' := []) (bs' := [bbB d ba ca na ta ka ia β, stB d na σ, stB d ta τ, viB d ca ν, coB d ca dy fa κ, lsB d ca L mc E.1, giB ca E.1 κ, P]) (As := [.int x1, .int (1 : Int32), .int (40 : Int32)]) (rest := []) (o := (some (.int v1))) C hkc hks (met_bl_within hok hg) (bq_pm [0, 1, 2, 3, 4, 5, 6, 7] rfl rfl rfl) (bq_pm [0, 1, 2, 3, 4, 5, 6, 7] rfl rfl rfl) (lw_S q814 q815 q113 q816) (hd_X1_within) (Nat.le_of_ble_eq_true rfl) (Nat.le_of_ble_eq_true rfl) rfl hl.1 rfl (Nat.le_of_ble_eq_true rfl) dX1_overdone_4 hP hD hS (fun H locs hP hD hS => ?_)
  obtain ⟨t2, hg, hf⟩ := bq_b1s hf
  refine bq_cSX (bs := [bbB d ba ca na ta ka ia β, stB d na σ, stB d ta τ, viB d ca ν, coB d ca dy fa κ, lsB d ca L mc E.1, giB ca E.1 κ, P]) (bc := []) (br := [bbB d ba ca na ta ka ia β, stB d na σ, stB d ta τ, viB d ca ν, coB d ca dy fa κ, lsB d ca L mc E.1, giB ca E.1 κ, P]) (bc' := []) (bs' := [bbB d ba ca na ta ka ia β, stB d na σ, stB d ta τ, viB d ca ν, coB d ca dy fa κ, lsB d ca L mc E.1, giB ca E.1 κ, P]) (As := [.int v1]) (rest := []) (o := none) C (Nat.le_of_ble_eq_true rfl) (Nat.le_of_ble_eq_true rfl) (met_bl_right hok hamb hst hg) (bq_pm [0, 1, 2, 3, 4, 5, 6, 7] rfl rfl rfl) (bq_pm [0, 1, 2, 3, 4, 5, 6, 7] rfl rfl rfl) (lw_S q1021 q1022 q113 q1023) (hd_X1_right) (Nat.le_of_ble_eq_true rfl) (Nat.le_of_ble_eq_true rfl) rfl hl.1 rfl (Nat.le_of_ble_eq_true rfl) dX1_overdone_7 hP hD hS (fun ht_ H locs hP hD hS => ?_) (fun ht_ => ?_)
  · have hf := bq_ip ht_ hf
    have hkc : 1 ≤ 1 := by decide
    have hks : 6 ≤ 6 := by decide
    refine lv_aload_n hx hb dX1_overdone_10 rfl (lv_at hl 0 rfl) ?_
    refine lv_iload_n hx hb dX1_overdone_11 rfl (lv_at hl 1 rfl) ?_
    obtain ⟨τ3, ν4, hg, hf⟩ := bq_b2s hf
    refine bq_cV (bs := [bbB d ba ca na ta ka ia β, stB d na σ, stB d ta τ, viB d ca ν, coB d ca dy fa κ, lsB d ca L mc E.1, giB ca E.1 κ, P]) (bc := [bbB d ba ca na ta ka ia β, stB d na σ, stB d ta τ, viB d ca ν, coB d ca dy fa κ, lsB d ca L mc E.1, giB ca E.1 κ, P]) (br := []) (bc' := [bbB d ba ca na ta ka ia β, stB d na σ, stB d ta τ3, viB d ca ν4, coB d ca dy fa κ, lsB d ca L mc E.1, giB ca E.1 κ, P]) (bs' := [bbB d ba ca na ta ka ia β, stB d na σ, stB d ta τ3, viB d ca ν4, coB d ca dy fa κ, lsB d ca L mc E.1, giB ca E.1 κ, P]) (As := [.int x1]) (rest := []) (o := none) C hkc hks (met_bl_tries hok hamb hE hby hL hg) (bq_pm [0, 1, 2, 3, 4, 5, 6, 7] rfl rfl rfl) (bq_pm [0, 1, 2, 3, 4, 5, 6, 7] rfl rfl rfl) (lw_V q959 q961 qs10 q113 q962) (hd_X1_tries) (Nat.le_of_ble_eq_true rfl) (Nat.le_of_ble_eq_true rfl) (va_recv hK hP (ci := 1) (q0 := 0) rfl rfl) rfl hl.1 rfl (Nat.le_of_ble_eq_true rfl) dX1_overdone_12 hP hD hS (fun H locs hP hD hS => ?_)
    refine lv_aload_n hx hb dX1_overdone_15 rfl (lv_at hl 0 rfl) ?_
    refine gX1_get (own := RX1) (fs := (bbF ba ca na ta ka ia β)) (v := .ref (ta 0)) hx hb hts hown hK hP (q0 := 0) rfl 4 (Nat.le_of_ble_eq_true rfl) (hts _ q759) rfl dX1_overdone_16 ?_
    refine gX6_getN (own := RX1) (host := "BlueBag") (fs := (stF ta τ3)) (v := .int (τ3 0 8)) hx hb hts hown hK hP (q0 := 11) rfl 8 (Nat.le_of_ble_eq_true rfl) (bq_nF hamb hm 18 rfl) rfl dX1_overdone_19 ?_
    obtain ⟨rfl, rfl, rfl, rfl⟩ := bq_p4 hf
    exact bq_iretX C hr (by decide) (by decide) hP hD hS dX1_overdone_22
  · have hf := bq_in ht_ hf
    obtain ⟨rfl, rfl, rfl, rfl⟩ := bq_p4 hf
    exact bq_prop C hex ht_ (by decide) (by decide)
set_option maxHeartbeats 4000000 in
theorem wk_bl_first_L12 {p : Program} {e : Env} {R : Room} {s : State} {m : MethodId} {args : Array Value} {below : List Frame} {meth : Method} {c : Code} {A : Nat → Prop} {kc ks : Nat} {Q : State → Prop} {l : Launch} {D : va_G} {am : bqAm} {X vE sE : Nat → Nat} {d : Nat → ClassId} {ba ca ia ka na ta : Nat → Nat} {dy fa : Option Nat} {L : Nat} {mc : Int32} {P : va_W} {F : Nat} {E : bqE} (C : bq_C p R s m args meth c A D bqCl (bqTy d) am cX1_first 3 RX1 805 24152) (hkc : kc ≤ R.cells) (hks : ks ≤ R.slots) (hamb : bq_Amb am X vE sE) (hst : l.stackTraces = false) (hE : bq_E P vE dy fa E) (hby : bq_By l D am d ca vE P 400) (hL : E.1 ≤ L ∧ L < 2147483648) {β : bqS} {σ : bqS} {κ : bqS} :
    ∀ (k : Nat) (x1 : Int32) (x2 : Int32) (τ : bqS) (ν : bqS) (tg : Nat) (y2 : Int32) (τ' : bqS) (ν' : bqS) (H : Heap) (locs : List Loc), bl_first_L12 F E β σ κ k x1 x2 τ ν = some (tg, y2, τ', ν') → va_P D bqCl (List.flatten ([bbB d ba ca na ta ka ia β, stB d na σ, stB d ta τ, viB d ca ν, coB d ca dy fa κ, lsB d ca L mc E.1, giB ca E.1 κ, P] : List va_W)) H → va_D A (List.flatten ([bbB d ba ca na ta ka ia β, stB d na σ, stB d ta τ, viB d ca ν, coB d ca dy fa κ, lsB d ca L mc E.1, giB ca E.1 κ, P] : List va_W)) → va_S A s.heap H locs → ∀ ls : Array Slot, lv_has ls 3 [(0, .ref (ba 0)), (1, .int x1), (2, .int x2)] →
      (tg = 0 → ∀ (H : Heap) (locs : List Loc), va_P D bqCl (List.flatten ([bbB d ba ca na ta ka ia β, stB d na σ, stB d ta τ', viB d ca ν', coB d ca dy fa κ, lsB d ca L mc E.1, giB ca E.1 κ, P] : List va_W)) H → va_D A (List.flatten ([bbB d ba ca na ta ka ia β, stB d na σ, stB d ta τ', viB d ca ν', coB d ca dy fa κ, lsB d ca L mc E.1, giB ca E.1 κ, P] : List va_W)) → va_S A s.heap H locs → ∀ ls : Array Slot, lv_has ls 3 [(2, .int y2)] → W p l e R s m args below meth c H locs kc ks Q (F0 m 44 ls [])) →
      (tg = 1 → ∀ (H : Heap) (locs : List Loc), va_P D bqCl (List.flatten ([bbB d ba ca na ta ka ia β, stB d na σ, stB d ta τ', viB d ca ν', coB d ca dy fa κ, lsB d ca L mc E.1, giB ca E.1 κ, P] : List va_W)) H → va_D A (List.flatten ([bbB d ba ca na ta ka ia β, stB d na σ, stB d ta τ', viB d ca ν', coB d ca dy fa κ, lsB d ca L mc E.1, giB ca E.1 κ, P] : List va_W)) → va_S A s.heap H locs → ∀ ls : Array Slot, lv_has ls 3 [] → W p l e R s m args below meth c H locs kc ks Q (F0 m 52 ls [])) →
      W p l e R s m args below meth c H locs kc ks Q (F0 m 12 ls []) := by
  have C0 := C
  obtain ⟨hx, hb, hown, hts, hml, hlocks, hA, hK, hm, hRf, hRl, hok⟩ := C
  have C := C0
  intro k
  induction k with
  | zero => intro x1 x2 τ ν tg y2 τ' ν' H locs hf
            cases hf
  | succ k ih =>
    intro x1 x2 τ ν tg y2 τ' ν' H locs hf hP hD hS ls hl hk0 hk1
    rw [bl_first_L12] at hf
    refine lv_iload_n hx hb dX1_first_12 rfl (lv_at hl 2 rfl) ?_
    refine lv_bipush (v := (40 : Int32)) hx hb dX1_first_13 (by decide) ?_
    refine lv_icmp_gt (tgt := 52) hx hb dX1_first_15 (by decide) (fun c4 => ?_) (fun c4 => ?_)
    · have hf := bq_ip c4 hf
      obtain ⟨rfl, rfl, rfl, rfl⟩ := bq_p4 hf
      exact hk1 rfl _ _ hP hD hS ls (lv_sub hl [] rfl)
    · have hf := bq_in c4 hf
      refine lv_aload_n hx hb dX1_first_18 rfl (lv_at hl 0 rfl) ?_
      refine gX1_get (own := RX1) (fs := (bbF ba ca na ta ka ia β)) (v := .ref (ta 0)) hx hb hts hown hK hP (q0 := 0) rfl 4 (Nat.le_of_ble_eq_true rfl) (hts _ q759) rfl dX1_first_19 ?_
      refine lv_aload_n hx hb dX1_first_22 rfl (lv_at hl 0 rfl) ?_
      refine gX1_get (own := RX1) (fs := (bbF ba ca na ta ka ia β)) (v := .ref (ca 0)) hx hb hts hown hK hP (q0 := 0) rfl 0 (Nat.le_of_ble_eq_true rfl) (hts _ q755) rfl dX1_first_23 ?_
      obtain ⟨τ5, ν6, hg, hf⟩ := bq_b2s hf
      refine bq_cV (bs := [bbB d ba ca na ta ka ia β, stB d na σ, stB d ta τ, viB d ca ν, coB d ca dy fa κ, lsB d ca L mc E.1, giB ca E.1 κ, P]) (bc := [stB d ta τ, viB d ca ν, coB d ca dy fa κ, lsB d ca L mc E.1, giB ca E.1 κ, P]) (br := [bbB d ba ca na ta ka ia β, stB d na σ]) (bc' := [stB d ta τ5, viB d ca ν6, coB d ca dy fa κ, lsB d ca L mc E.1, giB ca E.1 κ, P]) (bs' := [bbB d ba ca na ta ka ia β, stB d na σ, stB d ta τ5, viB d ca ν6, coB d ca dy fa κ, lsB d ca L mc E.1, giB ca E.1 κ, P]) (As := [.ref (ca 0)]) (rest := []) (o := none) C hkc hks (met_st_goes hok hamb hE hby hL hg) (bq_pm [2, 3, 4, 5, 6, 7, 0, 1] rfl rfl rfl) (bq_pm [6, 7, 0, 1, 2, 3, 4, 5] rfl rfl rfl) (lw_V q844 q845 q846 q138 q847) (hd_X6_goes) (Nat.le_of_ble_eq_true rfl) (Nat.le_of_ble_eq_true rfl) (va_recv hK hP (ci := 5) (q0 := 11) rfl rfl) rfl hl.1 rfl (Nat.le_of_ble_eq_true rfl) dX1_first_26 hP hD hS (fun H locs hP hD hS => ?_)
      refine lv_aload_n hx hb dX1_first_29 rfl (lv_at hl 0 rfl) ?_
      refine gX1_get (own := RX1) (fs := (bbF ba ca na ta ka ia β)) (v := .ref (ta 0)) hx hb hts hown hK hP (q0 := 0) rfl 4 (Nat.le_of_ble_eq_true rfl) (hts _ q759) rfl dX1_first_30 ?_
      refine gX6_getN (own := RX1) (host := "BlueBag") (fs := (stF ta τ5)) (v := .int (τ5 0 8)) hx hb hts hown hK hP (q0 := 11) rfl 8 (Nat.le_of_ble_eq_true rfl) (bq_nF hamb hm 18 rfl) rfl dX1_first_33 ?_
      refine lv_iload_n hx hb dX1_first_36 rfl (lv_at hl 1 rfl) ?_
      refine lv_ishr hx hb dX1_first_37 ?_
      refine lv_iconst (v := (1 : Int32)) hx hb dX1_first_38 (by decide) ?_
      refine lv_iand hx hb dX1_first_39 ?_
      refine lv_iconst (v := (1 : Int32)) hx hb dX1_first_40 (by decide) ?_
      refine lv_icmp_ne (tgt := 46) hx hb dX1_first_41 (by decide) (fun c7 => ?_) (fun c7 => ?_)
      · have hf := bq_in c7 hf
        obtain ⟨v8, ev8, hf⟩ := bq_lts hf
        refine lv_iinc (v := v8) (lv' := [(2, .int v8), (0, .ref (ba 0)), (1, .int x1)]) hx hb dX1_first_46 hl (k := 2) rfl (bq_inc (by decide) ev8) (by decide) rfl (fun ls hl => ?_)
        refine lv_goto (tgt := 12) hx hb dX1_first_49 (by decide) ?_
        exact ih _ _ _ _ _ _ _ _ _ _ hf hP hD hS ls (lv_sub hl [1, 2, 0] rfl) hk0 hk1
      · have hf := bq_ip c7 hf
        obtain ⟨rfl, rfl, rfl, rfl⟩ := bq_p4 hf
        exact hk0 rfl _ _ hP hD hS ls (lv_sub hl [2] rfl)
set_option maxHeartbeats 4000000 in
theorem met_bl_first {l : Launch} {D : va_G} {am : bqAm} {X vE sE : Nat → Nat} {d : Nat → ClassId} {ba ca ia ka na ta : Nat → Nat} {dy fa : Option Nat} {L : Nat} {mc : Int32} {P : va_W} {F : Nat} {E : bqE} {β : bqS} {σ : bqS} {τ : bqS} {ν : bqS} {κ : bqS} {τ' : bqS} {ν' : bqS} {r : Int32} {tg : Nat} {x1 : Int32} (hok : bq_Ok am) (hamb : bq_Amb am X vE sE) (hst : l.stackTraces = false) (hE : bq_E P vE dy fa E) (hby : bq_By l D am d ca vE P 400) (hL : E.1 ≤ L ∧ L < 2147483648) (hf : bl_first F E β σ τ ν κ x1 = some (tg, r, τ', ν')) : bq_X l yX1_first cX1_first 3 (some .int) 805 24152 1 6 D bqCl (bqTy d) am [.ref (ba 0), .int x1] (List.flatten ([bbB d ba ca na ta ka ia β, stB d na σ, stB d ta τ, viB d ca ν, coB d ca dy fa κ, lsB d ca L mc E.1, giB ca E.1 κ, P] : List va_W)) tg (some (.int r)) (List.flatten ([bbB d ba ca na ta ka ia β, stB d na σ, stB d ta τ', viB d ca ν', coB d ca dy fa κ, lsB d ca L mc E.1, giB ca E.1 κ, P] : List va_W)) := by
  unfold bl_first at hf
  refine bq_ofX hok (by decide +kernel) (Nat.le_of_ble_eq_true rfl) ?_
  intro p e s m below meth c A ls C hr hex hP hD hS hl
  have C0 := C
  obtain ⟨hx, hb, hown, hts, hml, hlocks, hA, hK, hm, hRf, hRl, hok⟩ := C
  have C := C0
  have hkc := Nat.zero_le 1
  have hks := Nat.zero_le 6
  have hl : lv_has ls 3 [(0, .ref (ba 0)), (1, .int x1)] := hl
  refine lv_aload_n hx hb dX1_first_0 rfl (lv_at hl 0 rfl) ?_
  refine lv_iload_n hx hb dX1_first_1 rfl (lv_at hl 1 rfl) ?_
  obtain ⟨t1, hg, hf⟩ := bq_b1s hf
  refine bq_cVX (bs := [bbB d ba ca na ta ka ia β, stB d na σ, stB d ta τ, viB d ca ν, coB d ca dy fa κ, lsB d ca L mc E.1, giB ca E.1 κ, P]) (bc := [bbB d ba ca na ta ka ia β, coB d ca dy fa κ]) (br := [stB d na σ, stB d ta τ, viB d ca ν, lsB d ca L mc E.1, giB ca E.1 κ, P]) (bc' := [bbB d ba ca na ta ka ia β, coB d ca dy fa κ]) (bs' := [bbB d ba ca na ta ka ia β, stB d na σ, stB d ta τ, viB d ca ν, coB d ca dy fa κ, lsB d ca L mc E.1, giB ca E.1 κ, P]) (As := [.int x1]) (rest := []) (o := none) C (Nat.le_of_ble_eq_true rfl) (Nat.le_of_ble_eq_true rfl) (met_bl_cellAt hok hamb hst hg) (bq_pm [0, 4, 1, 2, 3, 5, 6, 7] rfl rfl rfl) (bq_pm [0, 2, 3, 4, 1, 5, 6, 7] rfl rfl rfl) (lw_V q1423 q1425 qs35 q113 q1426) (hd_X1_cellAt) (Nat.le_of_ble_eq_true rfl) (Nat.le_of_ble_eq_true rfl) (va_recv hK hP (ci := 1) (q0 := 0) rfl rfl) rfl hl.1 rfl (Nat.le_of_ble_eq_true rfl) dX1_first_2 hP hD hS (fun ht_ H locs hP hD hS => ?_) (fun ht_ => ?_)
  · have hf := bq_ip ht_ hf
    have hkc : 1 ≤ 1 := by decide
    have hks : 6 ≤ 6 := by decide
    refine lv_aload_n hx hb dX1_first_5 rfl (lv_at hl 0 rfl) ?_
    refine lv_iconst (v := (0 : Int32)) hx hb dX1_first_6 (by decide) ?_
    obtain ⟨τ2, ν3, hg, hf⟩ := bq_b2s hf
    refine bq_cV (bs := [bbB d ba ca na ta ka ia β, stB d na σ, stB d ta τ, viB d ca ν, coB d ca dy fa κ, lsB d ca L mc E.1, giB ca E.1 κ, P]) (bc := [bbB d ba ca na ta ka ia β, stB d na σ, stB d ta τ, viB d ca ν, coB d ca dy fa κ, lsB d ca L mc E.1, giB ca E.1 κ, P]) (br := []) (bc' := [bbB d ba ca na ta ka ia β, stB d na σ, stB d ta τ2, viB d ca ν3, coB d ca dy fa κ, lsB d ca L mc E.1, giB ca E.1 κ, P]) (bs' := [bbB d ba ca na ta ka ia β, stB d na σ, stB d ta τ2, viB d ca ν3, coB d ca dy fa κ, lsB d ca L mc E.1, giB ca E.1 κ, P]) (As := [.int (0 : Int32)]) (rest := []) (o := none) C hkc hks (met_bl_tries hok hamb hE hby hL hg) (bq_pm [0, 1, 2, 3, 4, 5, 6, 7] rfl rfl rfl) (bq_pm [0, 1, 2, 3, 4, 5, 6, 7] rfl rfl rfl) (lw_V q959 q961 qs10 q113 q962) (hd_X1_tries) (Nat.le_of_ble_eq_true rfl) (Nat.le_of_ble_eq_true rfl) (va_recv hK hP (ci := 1) (q0 := 0) rfl rfl) rfl hl.1 rfl (Nat.le_of_ble_eq_true rfl) dX1_first_7 hP hD hS (fun H locs hP hD hS => ?_)
    refine lv_iconst (v := (1 : Int32)) hx hb dX1_first_10 (by decide) ?_
    refine lv_istore_n (lv' := [(2, .int (1 : Int32)), (0, .ref (ba 0)), (1, .int x1)]) hx hb dX1_first_11 rfl hl (by decide) rfl (fun ls hl => ?_)
    obtain ⟨t9, v10, τ11, ν12, hg, hf⟩ := bq_b4s hf
    refine wk_bl_first_L12 C hkc hks hamb hst hE hby hL _ _ _ _ _ _ _ _ _ _ _ hg hP hD hS ls (lv_sub hl [1, 2, 0] rfl) ?_ ?_
    · intro ht_
      intro H locs hP hD hS ls hl
      have hf := bq_ip ht_ hf
      refine lv_iload_n hx hb dX1_first_44 rfl (lv_at hl 0 rfl) ?_
      obtain ⟨rfl, rfl, rfl, rfl⟩ := bq_p4 hf
      exact bq_iretX C hr (by decide) (by decide) hP hD hS dX1_first_45
    · intro ht_
      intro H locs hP hD hS ls hl
      have hf := bq_in (by rw [ht_]; decide) hf
      refine lv_iconst (v := (-1 : Int32)) hx hb dX1_first_52 (by decide) ?_
      obtain ⟨rfl, rfl, rfl, rfl⟩ := bq_p4 hf
      exact bq_iretX C hr (by decide) (by decide) hP hD hS dX1_first_53
  · have hf := bq_in ht_ hf
    obtain ⟨rfl, rfl, rfl, rfl⟩ := bq_p4 hf
    exact bq_prop C hex ht_ (by decide) (by decide)
set_option maxHeartbeats 4000000 in
theorem wk_bl_spent_L7 {p : Program} {e : Env} {R : Room} {s : State} {m : MethodId} {args : Array Value} {below : List Frame} {meth : Method} {c : Code} {A : Nat → Prop} {kc ks : Nat} {Q : State → Prop} {l : Launch} {D : va_G} {am : bqAm} {X vE sE : Nat → Nat} {d : Nat → ClassId} {ba ca ia ka na ta : Nat → Nat} {dy fa : Option Nat} {L : Nat} {mc : Int32} {P : va_W} {F : Nat} {E : bqE} (C : bq_C p R s m args meth c A D bqCl (bqTy d) am cX1_spent 2 RX1 805 24152) (hkc : kc ≤ R.cells) (hks : ks ≤ R.slots) (hamb : bq_Amb am X vE sE) (hE : bq_E P vE dy fa E) (hby : bq_By l D am d ca vE P 400) (hL : E.1 ≤ L ∧ L < 2147483648) {β : bqS} {σ : bqS} {κ : bqS} :
    ∀ (k : Nat) (x1 : Int32) (τ : bqS) (ν : bqS) (tg : Nat) (y1 : Int32) (τ' : bqS) (ν' : bqS) (H : Heap) (locs : List Loc), bl_spent_L7 F E β σ κ k x1 τ ν = some (tg, y1, τ', ν') → va_P D bqCl (List.flatten ([bbB d ba ca na ta ka ia β, stB d na σ, stB d ta τ, viB d ca ν, coB d ca dy fa κ, lsB d ca L mc E.1, giB ca E.1 κ, P] : List va_W)) H → va_D A (List.flatten ([bbB d ba ca na ta ka ia β, stB d na σ, stB d ta τ, viB d ca ν, coB d ca dy fa κ, lsB d ca L mc E.1, giB ca E.1 κ, P] : List va_W)) → va_S A s.heap H locs → ∀ ls : Array Slot, lv_has ls 2 [(0, .ref (ba 0)), (1, .int x1)] →
      (tg = 0 → ∀ (H : Heap) (locs : List Loc), va_P D bqCl (List.flatten ([bbB d ba ca na ta ka ia β, stB d na σ, stB d ta τ', viB d ca ν', coB d ca dy fa κ, lsB d ca L mc E.1, giB ca E.1 κ, P] : List va_W)) H → va_D A (List.flatten ([bbB d ba ca na ta ka ia β, stB d na σ, stB d ta τ', viB d ca ν', coB d ca dy fa κ, lsB d ca L mc E.1, giB ca E.1 κ, P] : List va_W)) → va_S A s.heap H locs → ∀ ls : Array Slot, lv_has ls 2 [(1, .int y1)] → W p l e R s m args below meth c H locs kc ks Q (F0 m 23 ls [])) →
      (tg = 1 → ∀ (H : Heap) (locs : List Loc), va_P D bqCl (List.flatten ([bbB d ba ca na ta ka ia β, stB d na σ, stB d ta τ', viB d ca ν', coB d ca dy fa κ, lsB d ca L mc E.1, giB ca E.1 κ, P] : List va_W)) H → va_D A (List.flatten ([bbB d ba ca na ta ka ia β, stB d na σ, stB d ta τ', viB d ca ν', coB d ca dy fa κ, lsB d ca L mc E.1, giB ca E.1 κ, P] : List va_W)) → va_S A s.heap H locs → ∀ ls : Array Slot, lv_has ls 2 [] → W p l e R s m args below meth c H locs kc ks Q (F0 m 42 ls [])) →
      W p l e R s m args below meth c H locs kc ks Q (F0 m 7 ls []) := by
  have C0 := C
  obtain ⟨hx, hb, hown, hts, hml, hlocks, hA, hK, hm, hRf, hRl, hok⟩ := C
  have C := C0
  intro k
  induction k with
  | zero => intro x1 τ ν tg y1 τ' ν' H locs hf
            cases hf
  | succ k ih =>
    intro x1 τ ν tg y1 τ' ν' H locs hf hP hD hS ls hl hk0 hk1
    rw [bl_spent_L7] at hf
    refine lv_iload_n hx hb dX1_spent_7 rfl (lv_at hl 1 rfl) ?_
    refine lv_bipush (v := (40 : Int32)) hx hb dX1_spent_8 (by decide) ?_
    refine lv_icmp_gt (tgt := 42) hx hb dX1_spent_10 (by decide) (fun c3 => ?_) (fun c3 => ?_)
    · have hf := bq_ip c3 hf
      obtain ⟨rfl, rfl, rfl, rfl⟩ := bq_p4 hf
      exact hk1 rfl _ _ hP hD hS ls (lv_sub hl [] rfl)
    · have hf := bq_in c3 hf
      refine lv_aload_n hx hb dX1_spent_13 rfl (lv_at hl 0 rfl) ?_
      refine gX1_get (own := RX1) (fs := (bbF ba ca na ta ka ia β)) (v := .ref (ta 0)) hx hb hts hown hK hP (q0 := 0) rfl 4 (Nat.le_of_ble_eq_true rfl) (hts _ q759) rfl dX1_spent_14 ?_
      refine gX6_getN (own := RX1) (host := "BlueBag") (fs := (stF ta τ)) (v := .int (τ 0 4)) hx hb hts hown hK hP (q0 := 11) rfl 4 (Nat.le_of_ble_eq_true rfl) (bq_nF hamb hm 9 rfl) rfl dX1_spent_17 ?_
      refine lv_if_ne (tgt := 25) hx hb dX1_spent_20 (by decide) (fun c4 => ?_) (fun c4 => ?_)
      · have hf := bq_in c4 hf
        refine lv_aload_n hx hb dX1_spent_25 rfl (lv_at hl 0 rfl) ?_
        refine gX1_get (own := RX1) (fs := (bbF ba ca na ta ka ia β)) (v := .ref (ta 0)) hx hb hts hown hK hP (q0 := 0) rfl 4 (Nat.le_of_ble_eq_true rfl) (hts _ q759) rfl dX1_spent_26 ?_
        refine lv_aload_n hx hb dX1_spent_29 rfl (lv_at hl 0 rfl) ?_
        refine gX1_get (own := RX1) (fs := (bbF ba ca na ta ka ia β)) (v := .ref (ca 0)) hx hb hts hown hK hP (q0 := 0) rfl 0 (Nat.le_of_ble_eq_true rfl) (hts _ q755) rfl dX1_spent_30 ?_
        obtain ⟨τ5, ν6, hg, hf⟩ := bq_b2s hf
        refine bq_cV (bs := [bbB d ba ca na ta ka ia β, stB d na σ, stB d ta τ, viB d ca ν, coB d ca dy fa κ, lsB d ca L mc E.1, giB ca E.1 κ, P]) (bc := [stB d ta τ, viB d ca ν, coB d ca dy fa κ, lsB d ca L mc E.1, giB ca E.1 κ, P]) (br := [bbB d ba ca na ta ka ia β, stB d na σ]) (bc' := [stB d ta τ5, viB d ca ν6, coB d ca dy fa κ, lsB d ca L mc E.1, giB ca E.1 κ, P]) (bs' := [bbB d ba ca na ta ka ia β, stB d na σ, stB d ta τ5, viB d ca ν6, coB d ca dy fa κ, lsB d ca L mc E.1, giB ca E.1 κ, P]) (As := [.ref (ca 0)]) (rest := []) (o := none) C hkc hks (met_st_goes hok hamb hE hby hL hg) (bq_pm [2, 3, 4, 5, 6, 7, 0, 1] rfl rfl rfl) (bq_pm [6, 7, 0, 1, 2, 3, 4, 5] rfl rfl rfl) (lw_V q844 q845 q846 q138 q847) (hd_X6_goes) (Nat.le_of_ble_eq_true rfl) (Nat.le_of_ble_eq_true rfl) (va_recv hK hP (ci := 5) (q0 := 11) rfl rfl) rfl hl.1 rfl (Nat.le_of_ble_eq_true rfl) dX1_spent_33 hP hD hS (fun H locs hP hD hS => ?_)
        obtain ⟨v7, ev7, hf⟩ := bq_lts hf
        refine lv_iinc (v := v7) (lv' := [(1, .int v7), (0, .ref (ba 0))]) hx hb dX1_spent_36 hl (k := 1) rfl (bq_inc (by decide) ev7) (by decide) rfl (fun ls hl => ?_)
        refine lv_goto (tgt := 7) hx hb dX1_spent_39 (by decide) ?_
        exact ih _ _ _ _ _ _ _ _ _ hf hP hD hS ls (lv_sub hl [1, 0] rfl) hk0 hk1
      · have hf := bq_ip c4 hf
        obtain ⟨rfl, rfl, rfl, rfl⟩ := bq_p4 hf
        exact hk0 rfl _ _ hP hD hS ls (lv_sub hl [1] rfl)
set_option maxHeartbeats 4000000 in
theorem met_bl_spent {l : Launch} {D : va_G} {am : bqAm} {X vE sE : Nat → Nat} {d : Nat → ClassId} {ba ca ia ka na ta : Nat → Nat} {dy fa : Option Nat} {L : Nat} {mc : Int32} {P : va_W} {F : Nat} {E : bqE} {β : bqS} {σ : bqS} {τ : bqS} {ν : bqS} {κ : bqS} {τ' : bqS} {ν' : bqS} {r : Int32} (hok : bq_Ok am) (hamb : bq_Amb am X vE sE) (hE : bq_E P vE dy fa E) (hby : bq_By l D am d ca vE P 400) (hL : E.1 ≤ L ∧ L < 2147483648) (hf : bl_spent F E β σ τ ν κ = some (r, τ', ν')) : bq_M l yX1_spent cX1_spent 2 (some .int) 805 24152 D bqCl (bqTy d) am [.ref (ba 0)] (List.flatten ([bbB d ba ca na ta ka ia β, stB d na σ, stB d ta τ, viB d ca ν, coB d ca dy fa κ, lsB d ca L mc E.1, giB ca E.1 κ, P] : List va_W)) (some (.int r)) (List.flatten ([bbB d ba ca na ta ka ia β, stB d na σ, stB d ta τ', viB d ca ν', coB d ca dy fa κ, lsB d ca L mc E.1, giB ca E.1 κ, P] : List va_W)) := by
  unfold bl_spent at hf
  refine bq_of hok (by decide +kernel) (Nat.le_of_ble_eq_true rfl) ?_
  intro p e s m below meth c A ls C hr hP hD hS hl
  have C0 := C
  obtain ⟨hx, hb, hown, hts, hml, hlocks, hA, hK, hm, hRf, hRl, hok⟩ := C
  have C := C0
  have hkc := Nat.zero_le 0
  have hks := Nat.zero_le 0
  have hl : lv_has ls 2 [(0, .ref (ba 0))] := hl
  refine lv_aload_n hx hb dX1_spent_0 rfl (lv_at hl 0 rfl) ?_
  refine lv_iconst (v := (0 : Int32)) hx hb dX1_spent_1 (by decide) ?_
  obtain ⟨τ1, ν2, hg, hf⟩ := bq_b2s hf
  refine bq_cV (bs := [bbB d ba ca na ta ka ia β, stB d na σ, stB d ta τ, viB d ca ν, coB d ca dy fa κ, lsB d ca L mc E.1, giB ca E.1 κ, P]) (bc := [bbB d ba ca na ta ka ia β, stB d na σ, stB d ta τ, viB d ca ν, coB d ca dy fa κ, lsB d ca L mc E.1, giB ca E.1 κ, P]) (br := []) (bc' := [bbB d ba ca na ta ka ia β, stB d na σ, stB d ta τ1, viB d ca ν2, coB d ca dy fa κ, lsB d ca L mc E.1, giB ca E.1 κ, P]) (bs' := [bbB d ba ca na ta ka ia β, stB d na σ, stB d ta τ1, viB d ca ν2, coB d ca dy fa κ, lsB d ca L mc E.1, giB ca E.1 κ, P]) (As := [.int (0 : Int32)]) (rest := []) (o := none) C hkc hks (met_bl_tries hok hamb hE hby hL hg) (bq_pm [0, 1, 2, 3, 4, 5, 6, 7] rfl rfl rfl) (bq_pm [0, 1, 2, 3, 4, 5, 6, 7] rfl rfl rfl) (lw_V q959 q961 qs10 q113 q962) (hd_X1_tries) (Nat.le_of_ble_eq_true rfl) (Nat.le_of_ble_eq_true rfl) (va_recv hK hP (ci := 1) (q0 := 0) rfl rfl) rfl hl.1 rfl (Nat.le_of_ble_eq_true rfl) dX1_spent_2 hP hD hS (fun H locs hP hD hS => ?_)
  refine lv_iconst (v := (0 : Int32)) hx hb dX1_spent_5 (by decide) ?_
  refine lv_istore_n (lv' := [(1, .int (0 : Int32)), (0, .ref (ba 0))]) hx hb dX1_spent_6 rfl hl (by decide) rfl (fun ls hl => ?_)
  obtain ⟨t8, v9, τ10, ν11, hg, hf⟩ := bq_b4s hf
  refine wk_bl_spent_L7 C hkc hks hamb hE hby hL _ _ _ _ _ _ _ _ _ _ hg hP hD hS ls (lv_sub hl [1, 0] rfl) ?_ ?_
  · intro ht_
    intro H locs hP hD hS ls hl
    have hf := bq_ip ht_ hf
    refine lv_iload_n hx hb dX1_spent_23 rfl (lv_at hl 0 rfl) ?_
    obtain ⟨rfl, rfl, rfl⟩ := bq_p3 hf
    exact bq_iret C hr hP hD hS dX1_spent_24
  · intro ht_
    intro H locs hP hD hS ls hl
    have hf := bq_in (by rw [ht_]; decide) hf
    refine lv_iconst (v := (-1 : Int32)) hx hb dX1_spent_42 (by decide) ?_
    obtain ⟨rfl, rfl, rfl⟩ := bq_p3 hf
    exact bq_iret C hr hP hD hS dX1_spent_43
set_option maxHeartbeats 4000000 in
theorem wk_bl_streak_J73 {p : Program} {e : Env} {R : Room} {s : State} {m : MethodId} {args : Array Value} {below : List Frame} {meth : Method} {c : Code} {A : Nat → Prop} {kc ks : Nat} {Q : State → Prop} {l : Launch} {D : va_G} {am : bqAm} {X vE sE : Nat → Nat} {d : Nat → ClassId} {ba ca ia ka na ta : Nat → Nat} {dy fa : Option Nat} {F : Nat} (C : bq_C p R s m args meth c A D bqCl (bqTy d) am cX1_streak 6 RX1 7 110) (hkc : kc ≤ R.cells) (hks : ks ≤ R.slots) (hamb : bq_Amb am X vE sE) (hst : l.stackTraces = false) (rec : Int32 → Int32 → Int32 → Int32 → Option (Int32 × Int32)) (β : bqS) (σ : bqS) (κ : bqS) (x1 : Int32) (x2 : Int32) (x3 : Int32) (x4 : Int32) (x5 : Int32) (y2 : Int32) (y3 : Int32) (H : Heap) (locs : List Loc) :
      (∀ (z2 : Int32) (z3 : Int32) (z4 : Int32) (z5 : Int32) (H : Heap) (locs : List Loc), rec z2 z3 z4 z5 = some (y2, y3) → va_P D bqCl (List.flatten ([bbB d ba ca na ta ka ia β, stB d na σ, coB d ca dy fa κ] : List va_W)) H → va_D A (List.flatten ([bbB d ba ca na ta ka ia β, stB d na σ, coB d ca dy fa κ] : List va_W)) → va_S A s.heap H locs → ∀ ls : Array Slot, lv_has ls 6 [(0, .ref (ba 0)), (1, .int x1), (2, .int z2), (3, .int z3), (4, .int z4), (5, .int z5)] → W p l e R s m args below meth c H locs kc ks Q (F0 m 19 ls [])) →
      bl_streak_J73 F rec β σ κ x2 x3 x4 x5 = some (y2, y3) → va_P D bqCl (List.flatten ([bbB d ba ca na ta ka ia β, stB d na σ, coB d ca dy fa κ] : List va_W)) H → va_D A (List.flatten ([bbB d ba ca na ta ka ia β, stB d na σ, coB d ca dy fa κ] : List va_W)) → va_S A s.heap H locs → ∀ ls : Array Slot, lv_has ls 6 [(0, .ref (ba 0)), (1, .int x1), (2, .int x2), (3, .int x3), (4, .int x4), (5, .int x5)] →
      (∀ (H : Heap) (locs : List Loc), va_P D bqCl (List.flatten ([bbB d ba ca na ta ka ia β, stB d na σ, coB d ca dy fa κ] : List va_W)) H → va_D A (List.flatten ([bbB d ba ca na ta ka ia β, stB d na σ, coB d ca dy fa κ] : List va_W)) → va_S A s.heap H locs → ∀ ls : Array Slot, lv_has ls 6 [(1, .int x1), (2, .int y2), (3, .int y3)] → W p l e R s m args below meth c H locs kc ks Q (F0 m 102 ls [])) →
      W p l e R s m args below meth c H locs kc ks Q (F0 m 73 ls []) := by
  have C0 := C
  obtain ⟨hx, hb, hown, hts, hml, hlocks, hA, hK, hm, hRf, hRl, hok⟩ := C
  have C := C0
  intro hrec hf hP hD hS ls hl hk0
  unfold bl_streak_J73 at hf
  refine lv_iconst (v := (1 : Int32)) hx hb dX1_streak_73 (by decide) ?_
  refine lv_istore (lv' := [(4, .int (1 : Int32)), (0, .ref (ba 0)), (1, .int x1), (2, .int x2), (3, .int x3), (5, .int x5)]) hx hb dX1_streak_74 hl (by decide) rfl (fun ls hl => ?_)
  refine lv_iload hx hb dX1_streak_76 (lv_at hl 0 rfl) ?_
  refine lv_iload_n hx hb dX1_streak_78 rfl (lv_at hl 3 rfl) ?_
  refine lv_icmp_gt (tgt := 85) hx hb dX1_streak_79 (by decide) (fun c7 => ?_) (fun c7 => ?_)
  · have hf := bq_ip c7 hf
    refine lv_iload hx hb dX1_streak_85 (lv_at hl 0 rfl) ?_
    refine lv_istore_n (lv' := [(2, .int (1 : Int32)), (4, .int (1 : Int32)), (0, .ref (ba 0)), (1, .int x1), (3, .int x3), (5, .int x5)]) hx hb dX1_streak_87 rfl hl (by decide) rfl (fun ls hl => ?_)
    refine lv_iload hx hb dX1_streak_88 (lv_at hl 5 rfl) ?_
    refine lv_iload hx hb dX1_streak_90 (lv_at hl 1 rfl) ?_
    refine lv_isub hx hb dX1_streak_92 ?_
    refine lv_iconst (v := (1 : Int32)) hx hb dX1_streak_93 (by decide) ?_
    refine lv_iadd hx hb dX1_streak_94 ?_
    obtain ⟨v8, ev8, hf⟩ := bq_lts hf
    refine bq_tope ev8 ?_
    refine lv_istore_n (lv' := [(3, .int v8), (2, .int (1 : Int32)), (4, .int (1 : Int32)), (0, .ref (ba 0)), (1, .int x1), (5, .int x5)]) hx hb dX1_streak_95 rfl hl (by decide) rfl (fun ls hl => ?_)
    obtain ⟨v9, ev9, hf⟩ := bq_lts hf
    refine lv_iinc (v := v9) (lv' := [(5, .int v9), (3, .int v8), (2, .int (1 : Int32)), (4, .int (1 : Int32)), (0, .ref (ba 0)), (1, .int x1)]) hx hb dX1_streak_96 hl (k := 5) rfl (bq_inc (by decide) ev9) (by decide) rfl (fun ls hl => ?_)
    refine lv_goto (tgt := 19) hx hb dX1_streak_99 (by decide) ?_
    exact hrec _ _ _ _ _ _ hf hP hD hS ls (lv_sub hl [4, 5, 2, 1, 3, 0] rfl)
  · have hf := bq_in c7 hf
    refine lv_goto (tgt := 96) hx hb dX1_streak_82 (by decide) ?_
    obtain ⟨v10, ev10, hf⟩ := bq_lts hf
    refine lv_iinc (v := v10) (lv' := [(5, .int v10), (4, .int (1 : Int32)), (0, .ref (ba 0)), (1, .int x1), (2, .int x2), (3, .int x3)]) hx hb dX1_streak_96 hl (k := 5) rfl (bq_inc (by decide) ev10) (by decide) rfl (fun ls hl => ?_)
    refine lv_goto (tgt := 19) hx hb dX1_streak_99 (by decide) ?_
    exact hrec _ _ _ _ _ _ hf hP hD hS ls (lv_sub hl [2, 3, 4, 5, 1, 0] rfl)
