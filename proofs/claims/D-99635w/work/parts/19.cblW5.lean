set_option maxRecDepth 100000
set_option maxHeartbeats 4000000 in
theorem met_bl_game {l : Launch} {D : va_G} {am : bqAm} {X vE sE : Nat → Nat} {d : Nat → ClassId} {ba ca ia ka na ta : Nat → Nat} {dy fa : Option Nat} {L : Nat} {mc : Int32} {P : va_W} {F : Nat} {E : bqE} {β : bqS} {σ : bqS} {τ : bqS} {ν : bqS} {κ : bqS} {τ' : bqS} {ν' : bqS} {r : Int32} {tg : Nat} {x1 : Int32} {x2 : Int32} {x3 : Int32} (hok : bq_Ok am) (hamb : bq_Amb am X vE sE) (hst : l.stackTraces = false) (hE : bq_E P vE dy fa E) (hby : bq_By l D am d ca vE P 400) (hL : E.1 ≤ L ∧ L < 2147483648) (hf : bl_game F E β σ τ ν κ x1 x2 x3 = some (tg, r, τ', ν')) : bq_X l yX1_game cX1_game 9 (some .int) 806 24176 4 24 D bqCl (bqTy d) am [.ref (ba 0), .int x1, .int x2, .int x3] (List.flatten ([bbB d ba ca na ta ka ia β, stB d na σ, stB d ta τ, viB d ca ν, coB d ca dy fa κ, lsB d ca L mc E.1, giB ca E.1 κ, P] : List va_W)) tg (some (.int r)) (List.flatten ([bbB d ba ca na ta ka ia β, stB d na σ, stB d ta τ', viB d ca ν', coB d ca dy fa κ, lsB d ca L mc E.1, giB ca E.1 κ, P] : List va_W)) := by
  unfold bl_game at hf
  refine bq_ofX hok (by decide +kernel) (Nat.le_of_ble_eq_true rfl) ?_
  intro p e s m below meth c A ls C hr hex hP hD hS hl
  have C0 := C
  obtain ⟨hx, hb, hown, hts, hml, hlocks, hA, hK, hm, hRf, hRl, hok⟩ := C
  have C := C0
  have hkc := Nat.zero_le 4
  have hks := Nat.zero_le 24
  have hl : lv_has ls 9 [(0, .ref (ba 0)), (1, .int x1), (2, .int x2), (3, .int x3)] := hl
  refine lv_aload_n hx hb dX1_game_0 rfl (lv_at hl 0 rfl) ?_
  refine lv_iload_n hx hb dX1_game_1 rfl (lv_at hl 1 rfl) ?_
  obtain ⟨t1, hg, hf⟩ := bq_b1s hf
  refine bq_cVX (bs := [bbB d ba ca na ta ka ia β, stB d na σ, stB d ta τ, viB d ca ν, coB d ca dy fa κ, lsB d ca L mc E.1, giB ca E.1 κ, P]) (bc := [bbB d ba ca na ta ka ia β, coB d ca dy fa κ, lsB d ca L mc E.1, giB ca E.1 κ]) (br := [stB d na σ, stB d ta τ, viB d ca ν, P]) (bc' := [bbB d ba ca na ta ka ia β, coB d ca dy fa κ, lsB d ca L mc E.1, giB ca E.1 κ]) (bs' := [bbB d ba ca na ta ka ia β, stB d na σ, stB d ta τ, viB d ca ν, coB d ca dy fa κ, lsB d ca L mc E.1, giB ca E.1 κ, P]) (As := [.int x1]) (rest := []) (o := (some (.ref (ca (10 + x1.toNatClampNeg))))) C (Nat.le_of_ble_eq_true rfl) (Nat.le_of_ble_eq_true rfl) (met_bl_girlAt hok hamb hst hL hg) (bq_pm [0, 4, 5, 6, 1, 2, 3, 7] rfl rfl rfl) (bq_pm [0, 4, 5, 6, 1, 2, 3, 7] rfl rfl rfl) (lw_V q1444 q1446 qs38 q113 q1447) (hd_X1_girlAt) (Nat.le_of_ble_eq_true rfl) (Nat.le_of_ble_eq_true rfl) (va_recv hK hP (ci := 1) (q0 := 0) rfl rfl) rfl hl.1 rfl (Nat.le_of_ble_eq_true rfl) dX1_game_2 hP hD hS (fun ht_ H locs hP hD hS => ?_) (fun ht_ => ?_)
  · have hf := bq_ip ht_ hf
    have hkc : 1 ≤ 4 := by decide
    have hks : 6 ≤ 24 := by decide
    have hg_ := hg
    rw [ht_] at hg_
    refine lv_pop hx hb dX1_game_5 rfl ?_
    refine lv_aload_n hx hb dX1_game_6 rfl (lv_at hl 0 rfl) ?_
    refine lv_iload_n hx hb dX1_game_7 rfl (lv_at hl 2 rfl) ?_
    obtain ⟨t2, hg, hf⟩ := bq_b1s hf
    refine bq_cVX (bs := [bbB d ba ca na ta ka ia β, stB d na σ, stB d ta τ, viB d ca ν, coB d ca dy fa κ, lsB d ca L mc E.1, giB ca E.1 κ, P]) (bc := [bbB d ba ca na ta ka ia β, coB d ca dy fa κ, lsB d ca L mc E.1, giB ca E.1 κ]) (br := [stB d na σ, stB d ta τ, viB d ca ν, P]) (bc' := [bbB d ba ca na ta ka ia β, coB d ca dy fa κ, lsB d ca L mc E.1, giB ca E.1 κ]) (bs' := [bbB d ba ca na ta ka ia β, stB d na σ, stB d ta τ, viB d ca ν, coB d ca dy fa κ, lsB d ca L mc E.1, giB ca E.1 κ, P]) (As := [.int x2]) (rest := []) (o := (some (.ref (ca (10 + x2.toNatClampNeg))))) C (Nat.le_of_ble_eq_true rfl) (Nat.le_of_ble_eq_true rfl) (met_bl_girlAt hok hamb hst hL hg) (bq_pm [0, 4, 5, 6, 1, 2, 3, 7] rfl rfl rfl) (bq_pm [0, 4, 5, 6, 1, 2, 3, 7] rfl rfl rfl) (lw_V q1444 q1446 qs38 q113 q1447) (hd_X1_girlAt) (Nat.le_of_ble_eq_true rfl) (Nat.le_of_ble_eq_true rfl) (va_recv hK hP (ci := 1) (q0 := 0) rfl rfl) rfl hl.1 rfl (Nat.le_of_ble_eq_true rfl) dX1_game_8 hP hD hS (fun ht_ H locs hP hD hS => ?_) (fun ht_ => ?_)
    · have hf := bq_ip ht_ hf
      have hkc : 2 ≤ 4 := by decide
      have hks : 12 ≤ 24 := by decide
      have hg_ := hg
      rw [ht_] at hg_
      refine lv_pop hx hb dX1_game_11 rfl ?_
      refine lv_iload_n hx hb dX1_game_12 rfl (lv_at hl 3 rfl) ?_
      refine lv_iconst (v := (0 : Int32)) hx hb dX1_game_13 (by decide) ?_
      refine lv_iconst (v := (1 : Int32)) hx hb dX1_game_14 (by decide) ?_
      obtain ⟨v3, hg, hf⟩ := bq_b1s hf
      refine bq_cS (bs := [bbB d ba ca na ta ka ia β, stB d na σ, stB d ta τ, viB d ca ν, coB d ca dy fa κ, lsB d ca L mc E.1, giB ca E.1 κ, P]) (bc := []) (br := [bbB d ba ca na ta ka ia β, stB d na σ, stB d ta τ, viB d ca ν, coB d ca dy fa κ, lsB d ca L mc E.1, giB ca E.1 κ, P]) (bc' := []) (bs' := [bbB d ba ca na ta ka ia β, stB d na σ, stB d ta τ, viB d ca ν, coB d ca dy fa κ, lsB d ca L mc E.1, giB ca E.1 κ, P]) (As := [.int x3, .int (0 : Int32), .int (1 : Int32)]) (rest := []) (o := (some (.int v3))) C hkc hks (met_bl_within hok hg) (bq_pm [0, 1, 2, 3, 4, 5, 6, 7] rfl rfl rfl) (bq_pm [0, 1, 2, 3, 4, 5, 6, 7] rfl rfl rfl) (lw_S q814 q815 q113 q816) (hd_X1_within) (Nat.le_of_ble_eq_true rfl) (Nat.le_of_ble_eq_true rfl) rfl hl.1 rfl (Nat.le_of_ble_eq_true rfl) dX1_game_15 hP hD hS (fun H locs hP hD hS => ?_)
      obtain ⟨t4, hg, hf⟩ := bq_b1s hf
      refine bq_cSX (bs := [bbB d ba ca na ta ka ia β, stB d na σ, stB d ta τ, viB d ca ν, coB d ca dy fa κ, lsB d ca L mc E.1, giB ca E.1 κ, P]) (bc := []) (br := [bbB d ba ca na ta ka ia β, stB d na σ, stB d ta τ, viB d ca ν, coB d ca dy fa κ, lsB d ca L mc E.1, giB ca E.1 κ, P]) (bc' := []) (bs' := [bbB d ba ca na ta ka ia β, stB d na σ, stB d ta τ, viB d ca ν, coB d ca dy fa κ, lsB d ca L mc E.1, giB ca E.1 κ, P]) (As := [.int v3]) (rest := []) (o := none) C (Nat.le_of_ble_eq_true rfl) (Nat.le_of_ble_eq_true rfl) (met_bl_there hok hamb hst hg) (bq_pm [0, 1, 2, 3, 4, 5, 6, 7] rfl rfl rfl) (bq_pm [0, 1, 2, 3, 4, 5, 6, 7] rfl rfl rfl) (lw_S q1394 q1395 q113 q1396) (hd_X1_there) (Nat.le_of_ble_eq_true rfl) (Nat.le_of_ble_eq_true rfl) rfl hl.1 rfl (Nat.le_of_ble_eq_true rfl) dX1_game_18 hP hD hS (fun ht_ H locs hP hD hS => ?_) (fun ht_ => ?_)
      · have hf := bq_ip ht_ hf
        have hkc : 3 ≤ 4 := by decide
        have hks : 18 ≤ 24 := by decide
        refine lv_iload_n hx hb dX1_game_21 rfl (lv_at hl 1 rfl) ?_
        refine lv_iload_n hx hb dX1_game_22 rfl (lv_at hl 2 rfl) ?_
        refine lv_icmp_eq (tgt := 30) hx hb dX1_game_23 (by decide) (fun c5 => ?_) (fun c5 => ?_)
        · have hf := bq_ip c5 hf
          refine lv_iconst (v := (0 : Int32)) hx hb dX1_game_30 (by decide) ?_
          obtain ⟨t6, hg, hf⟩ := bq_b1s hf
          refine bq_cSX (bs := [bbB d ba ca na ta ka ia β, stB d na σ, stB d ta τ, viB d ca ν, coB d ca dy fa κ, lsB d ca L mc E.1, giB ca E.1 κ, P]) (bc := []) (br := [bbB d ba ca na ta ka ia β, stB d na σ, stB d ta τ, viB d ca ν, coB d ca dy fa κ, lsB d ca L mc E.1, giB ca E.1 κ, P]) (bc' := []) (bs' := [bbB d ba ca na ta ka ia β, stB d na σ, stB d ta τ, viB d ca ν, coB d ca dy fa κ, lsB d ca L mc E.1, giB ca E.1 κ, P]) (As := [.int (0 : Int32)]) (rest := []) (o := none) C (Nat.le_of_ble_eq_true rfl) (Nat.le_of_ble_eq_true rfl) (met_bl_right hok hamb hst hg) (bq_pm [0, 1, 2, 3, 4, 5, 6, 7] rfl rfl rfl) (bq_pm [0, 1, 2, 3, 4, 5, 6, 7] rfl rfl rfl) (lw_S q1021 q1022 q113 q1023) (hd_X1_right) (Nat.le_of_ble_eq_true rfl) (Nat.le_of_ble_eq_true rfl) rfl hl.1 rfl (Nat.le_of_ble_eq_true rfl) dX1_game_31 hP hD hS (fun ht_ H locs hP hD hS => ?_) (fun ht_ => ?_)
          · have hf := bq_ip ht_ hf
            have hkc : 4 ≤ 4 := by decide
            have hks : 24 ≤ 24 := by decide
            refine lv_iconst (v := (0 : Int32)) hx hb dX1_game_34 (by decide) ?_
            refine lv_istore (lv' := [(4, .int (0 : Int32)), (0, .ref (ba 0)), (1, .int x1), (2, .int x2), (3, .int x3)]) hx hb dX1_game_35 hl (by decide) rfl (fun ls hl => ?_)
            refine lv_iconst (v := (-1 : Int32)) hx hb dX1_game_37 (by decide) ?_
            refine lv_istore (lv' := [(5, .int (-1 : Int32)), (4, .int (0 : Int32)), (0, .ref (ba 0)), (1, .int x1), (2, .int x2), (3, .int x3)]) hx hb dX1_game_38 hl (by decide) rfl (fun ls hl => ?_)
            refine lv_iconst (v := (0 : Int32)) hx hb dX1_game_40 (by decide) ?_
            refine lv_istore (lv' := [(6, .int (0 : Int32)), (5, .int (-1 : Int32)), (4, .int (0 : Int32)), (0, .ref (ba 0)), (1, .int x1), (2, .int x2), (3, .int x3)]) hx hb dX1_game_41 hl (by decide) rfl (fun ls hl => ?_)
            obtain ⟨v295, v296, τ297, ν298, hg, hf⟩ := bq_b4s hf
            refine wk_bl_game_L43 C hkc hks hamb hst hE hby hL _ _ _ _ _ _ _ _ _ _ _ _ _ _ hg hP hD hS ls (lv_sub hl [3, 4, 5, 6, 2, 1, 0] rfl) ?_
            · intro H locs hP hD hS ls hl
              refine lv_iload_n hx hb dX1_game_171 rfl (lv_at hl 0 rfl) ?_
              refine lv_if_ne (tgt := 180) hx hb dX1_game_172 (by decide) (fun c299 => ?_) (fun c299 => ?_)
              · have hf := bq_in c299 hf
                refine lv_iload hx hb dX1_game_180 (lv_at hl 2 rfl) ?_
                obtain ⟨rfl, rfl, rfl, rfl⟩ := bq_p4 hf
                exact bq_iretX C hr (by decide) (by decide) hP hD hS dX1_game_182
              · have hf := bq_ip c299 hf
                refine lv_iload hx hb dX1_game_175 (lv_at hl 1 rfl) ?_
                refine lv_goto (tgt := 182) hx hb dX1_game_177 (by decide) ?_
                obtain ⟨rfl, rfl, rfl, rfl⟩ := bq_p4 hf
                exact bq_iretX C hr (by decide) (by decide) hP hD hS dX1_game_182
          · have hf := bq_in ht_ hf
            obtain ⟨rfl, rfl, rfl, rfl⟩ := bq_p4 hf
            exact bq_prop C hex ht_ (by decide) (by decide)
        · have hf := bq_in c5 hf
          refine lv_iconst (v := (1 : Int32)) hx hb dX1_game_26 (by decide) ?_
          refine lv_goto (tgt := 31) hx hb dX1_game_27 (by decide) ?_
          obtain ⟨t300, hg, hf⟩ := bq_b1s hf
          refine bq_cSX (bs := [bbB d ba ca na ta ka ia β, stB d na σ, stB d ta τ, viB d ca ν, coB d ca dy fa κ, lsB d ca L mc E.1, giB ca E.1 κ, P]) (bc := []) (br := [bbB d ba ca na ta ka ia β, stB d na σ, stB d ta τ, viB d ca ν, coB d ca dy fa κ, lsB d ca L mc E.1, giB ca E.1 κ, P]) (bc' := []) (bs' := [bbB d ba ca na ta ka ia β, stB d na σ, stB d ta τ, viB d ca ν, coB d ca dy fa κ, lsB d ca L mc E.1, giB ca E.1 κ, P]) (As := [.int (1 : Int32)]) (rest := []) (o := none) C (Nat.le_of_ble_eq_true rfl) (Nat.le_of_ble_eq_true rfl) (met_bl_right hok hamb hst hg) (bq_pm [0, 1, 2, 3, 4, 5, 6, 7] rfl rfl rfl) (bq_pm [0, 1, 2, 3, 4, 5, 6, 7] rfl rfl rfl) (lw_S q1021 q1022 q113 q1023) (hd_X1_right) (Nat.le_of_ble_eq_true rfl) (Nat.le_of_ble_eq_true rfl) rfl hl.1 rfl (Nat.le_of_ble_eq_true rfl) dX1_game_31 hP hD hS (fun ht_ H locs hP hD hS => ?_) (fun ht_ => ?_)
          · have hf := bq_ip ht_ hf
            have hkc : 4 ≤ 4 := by decide
            have hks : 24 ≤ 24 := by decide
            refine lv_iconst (v := (0 : Int32)) hx hb dX1_game_34 (by decide) ?_
            refine lv_istore (lv' := [(4, .int (0 : Int32)), (0, .ref (ba 0)), (1, .int x1), (2, .int x2), (3, .int x3)]) hx hb dX1_game_35 hl (by decide) rfl (fun ls hl => ?_)
            refine lv_iconst (v := (-1 : Int32)) hx hb dX1_game_37 (by decide) ?_
            refine lv_istore (lv' := [(5, .int (-1 : Int32)), (4, .int (0 : Int32)), (0, .ref (ba 0)), (1, .int x1), (2, .int x2), (3, .int x3)]) hx hb dX1_game_38 hl (by decide) rfl (fun ls hl => ?_)
            refine lv_iconst (v := (0 : Int32)) hx hb dX1_game_40 (by decide) ?_
            refine lv_istore (lv' := [(6, .int (0 : Int32)), (5, .int (-1 : Int32)), (4, .int (0 : Int32)), (0, .ref (ba 0)), (1, .int x1), (2, .int x2), (3, .int x3)]) hx hb dX1_game_41 hl (by decide) rfl (fun ls hl => ?_)
            obtain ⟨v301, v302, τ303, ν304, hg, hf⟩ := bq_b4s hf
            refine wk_bl_game_L43 C hkc hks hamb hst hE hby hL _ _ _ _ _ _ _ _ _ _ _ _ _ _ hg hP hD hS ls (lv_sub hl [3, 4, 5, 6, 2, 1, 0] rfl) ?_
            · intro H locs hP hD hS ls hl
              refine lv_iload_n hx hb dX1_game_171 rfl (lv_at hl 0 rfl) ?_
              refine lv_if_ne (tgt := 180) hx hb dX1_game_172 (by decide) (fun c305 => ?_) (fun c305 => ?_)
              · have hf := bq_in c305 hf
                refine lv_iload hx hb dX1_game_180 (lv_at hl 2 rfl) ?_
                obtain ⟨rfl, rfl, rfl, rfl⟩ := bq_p4 hf
                exact bq_iretX C hr (by decide) (by decide) hP hD hS dX1_game_182
              · have hf := bq_ip c305 hf
                refine lv_iload hx hb dX1_game_175 (lv_at hl 1 rfl) ?_
                refine lv_goto (tgt := 182) hx hb dX1_game_177 (by decide) ?_
                obtain ⟨rfl, rfl, rfl, rfl⟩ := bq_p4 hf
                exact bq_iretX C hr (by decide) (by decide) hP hD hS dX1_game_182
          · have hf := bq_in ht_ hf
            obtain ⟨rfl, rfl, rfl, rfl⟩ := bq_p4 hf
            exact bq_prop C hex ht_ (by decide) (by decide)
      · have hf := bq_in ht_ hf
        obtain ⟨rfl, rfl, rfl, rfl⟩ := bq_p4 hf
        exact bq_prop C hex ht_ (by decide) (by decide)
    · have hf := bq_in ht_ hf
      obtain ⟨rfl, rfl, rfl, rfl⟩ := bq_p4 hf
      exact bq_prop C hex ht_ (by decide) (by decide)
  · have hf := bq_in ht_ hf
    obtain ⟨rfl, rfl, rfl, rfl⟩ := bq_p4 hf
    exact bq_prop C hex ht_ (by decide) (by decide)
set_option maxHeartbeats 4000000 in
theorem met_bl_draw {l : Launch} {D : va_G} {am : bqAm} {X vE sE : Nat → Nat} {d : Nat → ClassId} {ba ca ia ka na ta : Nat → Nat} {β : bqS} {β' : bqS} {r : Int32} {x1 : Int32} (hok : bq_Ok am) (hamb : bq_Amb am X vE sE) (hf : bl_draw β x1 = some (r, β')) : bq_M l yX1_draw cX1_draw 2 (some .int) 0 0 D bqCl (bqTy d) am [.ref (ba 0), .int x1] (List.flatten ([bbB d ba ca na ta ka ia β] : List va_W)) (some (.int r)) (List.flatten ([bbB d ba ca na ta ka ia β'] : List va_W)) := by
  unfold bl_draw at hf
  refine bq_of hok (by decide +kernel) (Nat.le_of_ble_eq_true rfl) ?_
  intro p e s m below meth c A ls C hr hP hD hS hl
  have C0 := C
  obtain ⟨hx, hb, hown, hts, hml, hlocks, hA, hK, hm, hRf, hRl, hok⟩ := C
  have C := C0
  have hkc := Nat.zero_le 0
  have hks := Nat.zero_le 0
  have hl : lv_has ls 2 [(0, .ref (ba 0)), (1, .int x1)] := hl
  refine lv_aload_n hx hb dX1_draw_0 rfl (lv_at hl 0 rfl) ?_
  refine lv_aload_n hx hb dX1_draw_1 rfl (lv_at hl 0 rfl) ?_
  refine gX1_get (own := RX1) (fs := (bbF ba ca na ta ka ia β)) (v := .int (β 0 13)) hx hb hts hown hK hP (q0 := 0) rfl 13 (Nat.le_of_ble_eq_true rfl) (hts _ q768) rfl dX1_draw_2 ?_
  refine lv_ldcw (v := (1103515245 : Int32)) hx hb hown (hts _ q1669) dX1_draw_5 ?_
  refine lv_imul hx hb dX1_draw_8 ?_
  refine lv_sipush (v := (12345 : Int32)) hx hb dX1_draw_9 (by decide) ?_
  refine lv_iadd hx hb dX1_draw_12 ?_
  obtain ⟨β1, eβ1, hf⟩ := bq_lts hf
  refine gX1_put (own := RX1) (fs := (bbF ba ca na ta ka ia β)) (ty := .int) (ws' := (List.flatten ([bbB d ba ca na ta ka ia (bq_up β 0 13 (((β 0 13) * (1103515245 : Int32)) + (12345 : Int32)))] : List va_W))) hx hb hts hown hK hP hD hS (q0 := 0) rfl 13 (Nat.le_of_ble_eq_true rfl) (hts _ q768) rfl rfl rfl rfl (Nat.le_of_ble_eq_true rfl) rfl dX1_draw_13 (fun H locs hP hD hS => ?_)
  rw [← eβ1] at hP hD
  refine lv_aload_n hx hb dX1_draw_16 rfl (lv_at hl 0 rfl) ?_
  refine gX1_get (own := RX1) (fs := (bbF ba ca na ta ka ia β1)) (v := .int (β1 0 13)) hx hb hts hown hK hP (q0 := 0) rfl 13 (Nat.le_of_ble_eq_true rfl) (hts _ q768) rfl dX1_draw_17 ?_
  refine lv_bipush (v := (16 : Int32)) hx hb dX1_draw_20 (by decide) ?_
  refine lv_ishr hx hb dX1_draw_22 ?_
  refine lv_sipush (v := (32767 : Int32)) hx hb dX1_draw_23 (by decide) ?_
  refine lv_iand hx hb dX1_draw_26 ?_
  refine lv_iload_n hx hb dX1_draw_27 rfl (lv_at hl 1 rfl) ?_
  obtain ⟨h2, hf⟩ := bq_nzs hf
  refine lv_irem hx hb dX1_draw_28 h2 ?_
  obtain ⟨rfl, rfl⟩ := bq_p2 hf
  exact bq_iret C hr hP hD hS dX1_draw_29
set_option maxHeartbeats 4000000 in
theorem wk_bl_happens_J71 {p : Program} {e : Env} {R : Room} {s : State} {m : MethodId} {args : Array Value} {below : List Frame} {meth : Method} {c : Code} {A : Nat → Prop} {l : Launch} {D : va_G} {am : bqAm} {X vE sE : Nat → Nat} {d : Nat → ClassId} {ba ca ia ka na ta : Nat → Nat} {dy fa : Option Nat} {L : Nat} {mc : Int32} {E : bqE} (C : bq_C p R s m args meth c A D bqCl (bqTy d) am cX1_happens 3 RX1 2 82) (hkc : 0 ≤ R.cells) (hks : 0 ≤ R.slots) (hamb : bq_Amb am X vE sE) (hL : E.1 ≤ L ∧ L < 2147483648) (hr : meth.sig.returnType = none) (β : bqS) (τ : bqS) (κ : bqS) (x1 : Int32) (β' : bqS) (τ' : bqS) (H : Heap) (locs : List Loc) :
      bl_happens_J71 E β τ κ x1 = some (β', τ') → va_P D bqCl (List.flatten ([bbB d ba ca na ta ka ia β, stB d ta τ, coB d ca dy fa κ, lsB d ca L mc E.1] : List va_W)) H → va_D A (List.flatten ([bbB d ba ca na ta ka ia β, stB d ta τ, coB d ca dy fa κ, lsB d ca L mc E.1] : List va_W)) → va_S A s.heap H locs → ∀ ls : Array Slot, lv_has ls 3 [(0, .ref (ba 0)), (1, .int x1)] →
      W p l e R s m args below meth c H locs 0 0 (MQ below (bq_Q D bqCl none (List.flatten ([bbB d ba ca na ta ka ia β', stB d ta τ', coB d ca dy fa κ, lsB d ca L mc E.1] : List va_W)) A) args s 0 0 A) (F0 m 71 ls []) := by
  have C0 := C
  obtain ⟨hx, hb, hown, hts, hml, hlocks, hA, hK, hm, hRf, hRl, hok⟩ := C
  have C := C0
  intro hf hP hD hS ls hl 
  unfold bl_happens_J71 at hf
  refine lv_iload_n hx hb dX1_happens_71 rfl (lv_at hl 1 rfl) ?_
  refine lv_iconst (v := (2 : Int32)) hx hb dX1_happens_72 (by decide) ?_
  refine lv_icmp_ne (tgt := 97) hx hb dX1_happens_73 (by decide) (fun c5 => ?_) (fun c5 => ?_)
  · have hf := bq_in c5 hf
    obtain ⟨rfl, rfl⟩ := bq_p2 hf
    exact bq_vret C hr hP hD hS dX1_happens_97
  · have hf := bq_ip c5 hf
    refine lv_aload_n hx hb dX1_happens_76 rfl (lv_at hl 0 rfl) ?_
    refine gX1_get (own := RX1) (fs := (bbF ba ca na ta ka ia β)) (v := .ref (ta 0)) hx hb hts hown hK hP (q0 := 0) rfl 4 (Nat.le_of_ble_eq_true rfl) (hts _ q759) rfl dX1_happens_77 ?_
    refine lv_bipush (v := (99 : Int32)) hx hb dX1_happens_80 (by decide) ?_
    refine lv_aload_n hx hb dX1_happens_82 rfl (lv_at hl 0 rfl) ?_
    refine gX1_get (own := RX1) (fs := (bbF ba ca na ta ka ia β)) (v := .ref (ta 0)) hx hb hts hown hK hP (q0 := 0) rfl 4 (Nat.le_of_ble_eq_true rfl) (hts _ q759) rfl dX1_happens_83 ?_
    refine gX6_getN (own := RX1) (host := "BlueBag") (fs := (stF ta τ)) (v := .int (τ 0 4)) hx hb hts hown hK hP (q0 := 6) rfl 4 (Nat.le_of_ble_eq_true rfl) (bq_nF hamb hm 9 rfl) rfl dX1_happens_86 ?_
    refine lv_iconst (v := (5 : Int32)) hx hb dX1_happens_89 (by decide) ?_
    refine lv_iadd hx hb dX1_happens_90 ?_
    refine va_mmin hx hb (hml.trans hl.1.symm) hown (hts _ q948) (hts _ q298) (hts _ q127) (hts _ q299) (Nat.le_trans (Nat.le_of_ble_eq_true rfl) hRf) (Nat.le_trans (Nat.le_of_ble_eq_true rfl) hRl) hkc hks dX1_happens_91 ?_
    obtain ⟨τ6, eτ6, hf⟩ := bq_lts hf
    refine gX6_putN (own := RX1) (host := "BlueBag") (fs := (stF ta τ)) (ty := .int) (ws' := (List.flatten ([bbB d ba ca na ta ka ia β, stB d ta (bq_up τ 0 4 (if ((τ 0 4) + (5 : Int32)) < (99 : Int32) then ((τ 0 4) + (5 : Int32)) else (99 : Int32))), coB d ca dy fa κ, lsB d ca L mc E.1] : List va_W))) hx hb hts hown hK hP hD hS (q0 := 6) rfl 4 (Nat.le_of_ble_eq_true rfl) (bq_nF hamb hm 9 rfl) rfl rfl rfl rfl (Nat.le_of_ble_eq_true rfl) rfl dX1_happens_94 (fun H locs hP hD hS => ?_)
    rw [← eτ6] at hP hD
    obtain ⟨rfl, rfl⟩ := bq_p2 hf
    exact bq_vret C hr hP hD hS dX1_happens_97
set_option maxHeartbeats 4000000 in
theorem met_bl_happens {l : Launch} {D : va_G} {am : bqAm} {X vE sE : Nat → Nat} {d : Nat → ClassId} {ba ca ia ka na ta : Nat → Nat} {dy fa : Option Nat} {L : Nat} {mc : Int32} {E : bqE} {β : bqS} {τ : bqS} {κ : bqS} {β' : bqS} {τ' : bqS} (hok : bq_Ok am) (hamb : bq_Amb am X vE sE) (hL : E.1 ≤ L ∧ L < 2147483648) (hf : bl_happens E β τ κ = some (β', τ')) : bq_M l yX1_happens cX1_happens 3 none 2 82 D bqCl (bqTy d) am [.ref (ba 0)] (List.flatten ([bbB d ba ca na ta ka ia β, stB d ta τ, coB d ca dy fa κ, lsB d ca L mc E.1] : List va_W)) none (List.flatten ([bbB d ba ca na ta ka ia β', stB d ta τ', coB d ca dy fa κ, lsB d ca L mc E.1] : List va_W)) := by
  unfold bl_happens at hf
  refine bq_of hok (by decide +kernel) (Nat.le_of_ble_eq_true rfl) ?_
  intro p e s m below meth c A ls C hr hP hD hS hl
  have C0 := C
  obtain ⟨hx, hb, hown, hts, hml, hlocks, hA, hK, hm, hRf, hRl, hok⟩ := C
  have C := C0
  have hkc := Nat.zero_le 0
  have hks := Nat.zero_le 0
  have hl : lv_has ls 3 [(0, .ref (ba 0))] := hl
  refine lv_aload_n hx hb dX1_happens_0 rfl (lv_at hl 0 rfl) ?_
  refine lv_iconst (v := (5 : Int32)) hx hb dX1_happens_1 (by decide) ?_
  obtain ⟨v1, β2, hg, hf⟩ := bq_b2s hf
  refine bq_cV (bs := [bbB d ba ca na ta ka ia β, stB d ta τ, coB d ca dy fa κ, lsB d ca L mc E.1]) (bc := [bbB d ba ca na ta ka ia β]) (br := [stB d ta τ, coB d ca dy fa κ, lsB d ca L mc E.1]) (bc' := [bbB d ba ca na ta ka ia β2]) (bs' := [bbB d ba ca na ta ka ia β2, stB d ta τ, coB d ca dy fa κ, lsB d ca L mc E.1]) (As := [.int (5 : Int32)]) (rest := []) (o := (some (.int v1))) C hkc hks (met_bl_draw hok hamb hg) (bq_pm [0, 1, 2, 3] rfl rfl rfl) (bq_pm [0, 1, 2, 3] rfl rfl rfl) (lw_V q1665 q1667 qs48 q113 q1668) (hd_X1_draw) (Nat.le_of_ble_eq_true rfl) (Nat.le_of_ble_eq_true rfl) (va_recv hK hP (ci := 1) (q0 := 0) rfl rfl) rfl hl.1 rfl (Nat.le_of_ble_eq_true rfl) dX1_happens_2 hP hD hS (fun H locs hP hD hS => ?_)
  refine lv_istore_n (lv' := [(1, .int v1), (0, .ref (ba 0))]) hx hb dX1_happens_5 rfl hl (by decide) rfl (fun ls hl => ?_)
  refine lv_iload_n hx hb dX1_happens_6 rfl (lv_at hl 0 rfl) ?_
  refine lv_if_ne (tgt := 30) hx hb dX1_happens_7 (by decide) (fun c3 => ?_) (fun c3 => ?_)
  · have hf := bq_in c3 hf
    refine lv_iload_n hx hb dX1_happens_30 rfl (lv_at hl 0 rfl) ?_
    refine lv_iconst (v := (1 : Int32)) hx hb dX1_happens_31 (by decide) ?_
    refine lv_icmp_ne (tgt := 71) hx hb dX1_happens_32 (by decide) (fun c4 => ?_) (fun c4 => ?_)
    · have hf := bq_in c4 hf
      exact wk_bl_happens_J71 C hkc hks hamb hL hr _ _ _ _ _ _ _ _ hf hP hD hS ls (lv_sub hl [1, 0] rfl)
    · have hf := bq_ip c4 hf
      refine lv_aload_n hx hb dX1_happens_35 rfl (lv_at hl 1 rfl) ?_
      obtain ⟨v7, hg, hf⟩ := bq_b1s hf
      refine bq_cV (bs := [bbB d ba ca na ta ka ia β2, stB d ta τ, coB d ca dy fa κ, lsB d ca L mc E.1]) (bc := [bbB d ba ca na ta ka ia β2, coB d ca dy fa κ, lsB d ca L mc E.1]) (br := [stB d ta τ]) (bc' := [bbB d ba ca na ta ka ia β2, coB d ca dy fa κ, lsB d ca L mc E.1]) (bs' := [bbB d ba ca na ta ka ia β2, stB d ta τ, coB d ca dy fa κ, lsB d ca L mc E.1]) (As := []) (rest := []) (o := (some (.int v7))) C hkc hks (met_bl_girls hok hamb hL hg) (bq_pm [0, 2, 3, 1] rfl rfl rfl) (bq_pm [0, 3, 1, 2] rfl rfl rfl) (lw_V q979 q981 qs12 q113 q982) (hd_X1_girls) (Nat.le_of_ble_eq_true rfl) (Nat.le_of_ble_eq_true rfl) (va_recv hK hP (ci := 1) (q0 := 0) rfl rfl) rfl hl.1 rfl (Nat.le_of_ble_eq_true rfl) dX1_happens_36 hP hD hS (fun H locs hP hD hS => ?_)
      refine lv_if_le (tgt := 71) hx hb dX1_happens_39 (by decide) (fun c8 => ?_) (fun c8 => ?_)
      · have hf := bq_ip c8 hf
        exact wk_bl_happens_J71 C hkc hks hamb hL hr _ _ _ _ _ _ _ _ hf hP hD hS ls (lv_sub hl [1, 0] rfl)
      · have hf := bq_in c8 hf
        refine lv_aload_n hx hb dX1_happens_42 rfl (lv_at hl 1 rfl) ?_
        refine lv_aload_n hx hb dX1_happens_43 rfl (lv_at hl 1 rfl) ?_
        obtain ⟨v9, hg, hf⟩ := bq_b1s hf
        refine bq_cV (bs := [bbB d ba ca na ta ka ia β2, stB d ta τ, coB d ca dy fa κ, lsB d ca L mc E.1]) (bc := [bbB d ba ca na ta ka ia β2, coB d ca dy fa κ, lsB d ca L mc E.1]) (br := [stB d ta τ]) (bc' := [bbB d ba ca na ta ka ia β2, coB d ca dy fa κ, lsB d ca L mc E.1]) (bs' := [bbB d ba ca na ta ka ia β2, stB d ta τ, coB d ca dy fa κ, lsB d ca L mc E.1]) (As := []) (rest := [.ref (ba 0)]) (o := (some (.int v9))) C hkc hks (met_bl_girls hok hamb hL hg) (bq_pm [0, 2, 3, 1] rfl rfl rfl) (bq_pm [0, 3, 1, 2] rfl rfl rfl) (lw_V q979 q981 qs12 q113 q982) (hd_X1_girls) (Nat.le_of_ble_eq_true rfl) (Nat.le_of_ble_eq_true rfl) (va_recv hK hP (ci := 1) (q0 := 0) rfl rfl) rfl hl.1 rfl (Nat.le_of_ble_eq_true rfl) dX1_happens_44 hP hD hS (fun H locs hP hD hS => ?_)
        obtain ⟨v10, β11, hg, hf⟩ := bq_b2s hf
        refine bq_cV (bs := [bbB d ba ca na ta ka ia β2, stB d ta τ, coB d ca dy fa κ, lsB d ca L mc E.1]) (bc := [bbB d ba ca na ta ka ia β2]) (br := [stB d ta τ, coB d ca dy fa κ, lsB d ca L mc E.1]) (bc' := [bbB d ba ca na ta ka ia β11]) (bs' := [bbB d ba ca na ta ka ia β11, stB d ta τ, coB d ca dy fa κ, lsB d ca L mc E.1]) (As := [.int v9]) (rest := []) (o := (some (.int v10))) C hkc hks (met_bl_draw hok hamb hg) (bq_pm [0, 1, 2, 3] rfl rfl rfl) (bq_pm [0, 1, 2, 3] rfl rfl rfl) (lw_V q1665 q1667 qs48 q113 q1668) (hd_X1_draw) (Nat.le_of_ble_eq_true rfl) (Nat.le_of_ble_eq_true rfl) (va_recv hK hP (ci := 1) (q0 := 0) rfl rfl) rfl hl.1 rfl (Nat.le_of_ble_eq_true rfl) dX1_happens_47 hP hD hS (fun H locs hP hD hS => ?_)
        refine lv_istore_n (lv' := [(2, .int v10), (1, .int v1), (0, .ref (ba 0))]) hx hb dX1_happens_50 rfl hl (by decide) rfl (fun ls hl => ?_)
        refine lv_aload_n hx hb dX1_happens_51 rfl (lv_at hl 2 rfl) ?_
        refine gX1_get (own := RX1) (fs := (bbF ba ca na ta ka ia β11)) (v := .ref (ta 0)) hx hb hts hown hK hP (q0 := 0) rfl 4 (Nat.le_of_ble_eq_true rfl) (hts _ q759) rfl dX1_happens_52 ?_
        refine gX6_getN (own := RX1) (host := "BlueBag") (fs := (stF ta τ)) (v := .ref (ta 2)) hx hb hts hown hK hP (q0 := 6) rfl 1 (Nat.le_of_ble_eq_true rfl) (bq_nF hamb hm 16 rfl) rfl dX1_happens_55 ?_
        refine lv_iload_n hx hb dX1_happens_58 rfl (lv_at hl 0 rfl) ?_
        refine lv_aload_n hx hb dX1_happens_59 rfl (lv_at hl 2 rfl) ?_
        refine lv_aload_n hx hb dX1_happens_60 rfl (lv_at hl 2 rfl) ?_
        obtain ⟨v12, hg, hf⟩ := bq_b1s hf
        refine bq_cV (bs := [bbB d ba ca na ta ka ia β11, stB d ta τ, coB d ca dy fa κ, lsB d ca L mc E.1]) (bc := [bbB d ba ca na ta ka ia β11, coB d ca dy fa κ]) (br := [stB d ta τ, lsB d ca L mc E.1]) (bc' := [bbB d ba ca na ta ka ia β11, coB d ca dy fa κ]) (bs' := [bbB d ba ca na ta ka ia β11, stB d ta τ, coB d ca dy fa κ, lsB d ca L mc E.1]) (As := []) (rest := [.ref (ba 0), .int v10, .ref (ta 2)]) (o := (some (.int v12))) C hkc hks (met_bl_cells hok hamb hg) (bq_pm [0, 2, 1, 3] rfl rfl rfl) (bq_pm [0, 2, 1, 3] rfl rfl rfl) (lw_V q990 q992 qs13 q113 q993) (hd_X1_cells) (Nat.le_of_ble_eq_true rfl) (Nat.le_of_ble_eq_true rfl) (va_recv hK hP (ci := 1) (q0 := 0) rfl rfl) rfl hl.1 rfl (Nat.le_of_ble_eq_true rfl) dX1_happens_61 hP hD hS (fun H locs hP hD hS => ?_)
        obtain ⟨v13, β14, hg, hf⟩ := bq_b2s hf
        refine bq_cV (bs := [bbB d ba ca na ta ka ia β11, stB d ta τ, coB d ca dy fa κ, lsB d ca L mc E.1]) (bc := [bbB d ba ca na ta ka ia β11]) (br := [stB d ta τ, coB d ca dy fa κ, lsB d ca L mc E.1]) (bc' := [bbB d ba ca na ta ka ia β14]) (bs' := [bbB d ba ca na ta ka ia β14, stB d ta τ, coB d ca dy fa κ, lsB d ca L mc E.1]) (As := [.int v12]) (rest := [.int v10, .ref (ta 2)]) (o := (some (.int v13))) C hkc hks (met_bl_draw hok hamb hg) (bq_pm [0, 1, 2, 3] rfl rfl rfl) (bq_pm [0, 1, 2, 3] rfl rfl rfl) (lw_V q1665 q1667 qs48 q113 q1668) (hd_X1_draw) (Nat.le_of_ble_eq_true rfl) (Nat.le_of_ble_eq_true rfl) (va_recv hK hP (ci := 1) (q0 := 0) rfl rfl) rfl hl.1 rfl (Nat.le_of_ble_eq_true rfl) dX1_happens_64 hP hD hS (fun H locs hP hD hS => ?_)
        obtain ⟨h15, hf⟩ := bq_cks hf
        obtain ⟨τ16, eτ16, hf⟩ := bq_lts hf
        refine bq_ist (j := v10.toNatClampNeg) (f := τ 2) (ws' := (List.flatten ([bbB d ba ca na ta ka ia β14, stB d ta (bq_up τ 2 v10.toNatClampNeg v13), coB d ca dy fa κ, lsB d ca L mc E.1] : List va_W))) hx hb hK hP hD hS 8 rfl rfl h15 rfl rfl dX1_happens_67 (fun H locs hP hD hS => ?_)
        rw [← eτ16] at hP hD
        refine lv_goto (tgt := 97) hx hb dX1_happens_68 (by decide) ?_
        obtain ⟨rfl, rfl⟩ := bq_p2 hf
        exact bq_vret C hr hP hD hS dX1_happens_97
  · have hf := bq_ip c3 hf
    refine lv_aload_n hx hb dX1_happens_10 rfl (lv_at hl 1 rfl) ?_
    refine gX1_get (own := RX1) (fs := (bbF ba ca na ta ka ia β2)) (v := .ref (ta 0)) hx hb hts hown hK hP (q0 := 0) rfl 4 (Nat.le_of_ble_eq_true rfl) (hts _ q759) rfl dX1_happens_11 ?_
    refine lv_aload_n hx hb dX1_happens_14 rfl (lv_at hl 1 rfl) ?_
    refine lv_aload_n hx hb dX1_happens_15 rfl (lv_at hl 1 rfl) ?_
    obtain ⟨v17, hg, hf⟩ := bq_b1s hf
    refine bq_cV (bs := [bbB d ba ca na ta ka ia β2, stB d ta τ, coB d ca dy fa κ, lsB d ca L mc E.1]) (bc := [bbB d ba ca na ta ka ia β2, coB d ca dy fa κ]) (br := [stB d ta τ, lsB d ca L mc E.1]) (bc' := [bbB d ba ca na ta ka ia β2, coB d ca dy fa κ]) (bs' := [bbB d ba ca na ta ka ia β2, stB d ta τ, coB d ca dy fa κ, lsB d ca L mc E.1]) (As := []) (rest := [.ref (ba 0), .ref (ta 0)]) (o := (some (.int v17))) C hkc hks (met_bl_cells hok hamb hg) (bq_pm [0, 2, 1, 3] rfl rfl rfl) (bq_pm [0, 2, 1, 3] rfl rfl rfl) (lw_V q990 q992 qs13 q113 q993) (hd_X1_cells) (Nat.le_of_ble_eq_true rfl) (Nat.le_of_ble_eq_true rfl) (va_recv hK hP (ci := 1) (q0 := 0) rfl rfl) rfl hl.1 rfl (Nat.le_of_ble_eq_true rfl) dX1_happens_16 hP hD hS (fun H locs hP hD hS => ?_)
    obtain ⟨v18, β19, hg, hf⟩ := bq_b2s hf
    refine bq_cV (bs := [bbB d ba ca na ta ka ia β2, stB d ta τ, coB d ca dy fa κ, lsB d ca L mc E.1]) (bc := [bbB d ba ca na ta ka ia β2]) (br := [stB d ta τ, coB d ca dy fa κ, lsB d ca L mc E.1]) (bc' := [bbB d ba ca na ta ka ia β19]) (bs' := [bbB d ba ca na ta ka ia β19, stB d ta τ, coB d ca dy fa κ, lsB d ca L mc E.1]) (As := [.int v17]) (rest := [.ref (ta 0)]) (o := (some (.int v18))) C hkc hks (met_bl_draw hok hamb hg) (bq_pm [0, 1, 2, 3] rfl rfl rfl) (bq_pm [0, 1, 2, 3] rfl rfl rfl) (lw_V q1665 q1667 qs48 q113 q1668) (hd_X1_draw) (Nat.le_of_ble_eq_true rfl) (Nat.le_of_ble_eq_true rfl) (va_recv hK hP (ci := 1) (q0 := 0) rfl rfl) rfl hl.1 rfl (Nat.le_of_ble_eq_true rfl) dX1_happens_19 hP hD hS (fun H locs hP hD hS => ?_)
    refine lv_bipush (v := (20 : Int32)) hx hb dX1_happens_22 (by decide) ?_
    obtain ⟨τ20, hg, hf⟩ := bq_b1s hf
    refine bq_cV (bs := [bbB d ba ca na ta ka ia β19, stB d ta τ, coB d ca dy fa κ, lsB d ca L mc E.1]) (bc := [stB d ta τ]) (br := [bbB d ba ca na ta ka ia β19, coB d ca dy fa κ, lsB d ca L mc E.1]) (bc' := [stB d ta τ20]) (bs' := [bbB d ba ca na ta ka ia β19, stB d ta τ20, coB d ca dy fa κ, lsB d ca L mc E.1]) (As := [.int v18, .int (20 : Int32)]) (rest := []) (o := none) C hkc hks (met_st_takes hok hamb hg) (bq_pm [1, 0, 2, 3] rfl rfl rfl) (bq_pm [1, 0, 2, 3] rfl rfl rfl) (lw_V q1670 q918 q919 q138 q920) (hd_X6_takes) (Nat.le_of_ble_eq_true rfl) (Nat.le_of_ble_eq_true rfl) (va_recv hK hP (ci := 5) (q0 := 6) rfl rfl) rfl hl.1 rfl (Nat.le_of_ble_eq_true rfl) dX1_happens_24 hP hD hS (fun H locs hP hD hS => ?_)
    refine lv_goto (tgt := 97) hx hb dX1_happens_27 (by decide) ?_
    obtain ⟨rfl, rfl⟩ := bq_p2 hf
    exact bq_vret C hr hP hD hS dX1_happens_97
set_option maxHeartbeats 4000000 in
theorem wk_bl_skies_L35 {p : Program} {e : Env} {R : Room} {s : State} {m : MethodId} {args : Array Value} {below : List Frame} {meth : Method} {c : Code} {A : Nat → Prop} {kc ks : Nat} {Q : State → Prop} {l : Launch} {D : va_G} {am : bqAm} {X vE sE : Nat → Nat} {d : Nat → ClassId} {ba ca ia ka na ta : Nat → Nat} {dy fa : Option Nat} {L : Nat} {mc : Int32} {P : va_W} {F : Nat} {E : bqE} (C : bq_C p R s m args meth c A D bqCl (bqTy d) am cX1_skies 6 RX1 805 24152) (hkc : kc ≤ R.cells) (hks : ks ≤ R.slots) (hamb : bq_Amb am X vE sE) (hst : l.stackTraces = false) (hE : bq_E P vE dy fa E) (hby : bq_By l D am d ca vE P 400) (hL : E.1 ≤ L ∧ L < 2147483648) {σ : bqS} {κ : bqS} {x3 : Int32} :
    ∀ (k : Nat) (x2 : Int32) (x4 : Int32) (x5 : Int32) (β : bqS) (τ : bqS) (ν : bqS) (y4 : Int32) (β' : bqS) (τ' : bqS) (ν' : bqS) (H : Heap) (locs : List Loc), bl_skies_L35 F E σ κ k x2 x4 x5 β τ ν = some (y4, β', τ', ν') → va_P D bqCl (List.flatten ([bbB d ba ca na ta ka ia β, stB d na σ, stB d ta τ, viB d ca ν, coB d ca dy fa κ, lsB d ca L mc E.1, giB ca E.1 κ, P] : List va_W)) H → va_D A (List.flatten ([bbB d ba ca na ta ka ia β, stB d na σ, stB d ta τ, viB d ca ν, coB d ca dy fa κ, lsB d ca L mc E.1, giB ca E.1 κ, P] : List va_W)) → va_S A s.heap H locs → ∀ ls : Array Slot, lv_has ls 6 [(0, .ref (ba 0)), (2, .int x2), (3, .int x3), (4, .int x4), (5, .int x5)] →
      (∀ (H : Heap) (locs : List Loc), va_P D bqCl (List.flatten ([bbB d ba ca na ta ka ia β', stB d na σ, stB d ta τ', viB d ca ν', coB d ca dy fa κ, lsB d ca L mc E.1, giB ca E.1 κ, P] : List va_W)) H → va_D A (List.flatten ([bbB d ba ca na ta ka ia β', stB d na σ, stB d ta τ', viB d ca ν', coB d ca dy fa κ, lsB d ca L mc E.1, giB ca E.1 κ, P] : List va_W)) → va_S A s.heap H locs → ∀ ls : Array Slot, lv_has ls 6 [(0, .ref (ba 0)), (3, .int x3), (4, .int y4)] → W p l e R s m args below meth c H locs kc ks Q (F0 m 77 ls [])) →
      W p l e R s m args below meth c H locs kc ks Q (F0 m 35 ls []) := by
  have C0 := C
  obtain ⟨hx, hb, hown, hts, hml, hlocks, hA, hK, hm, hRf, hRl, hok⟩ := C
  have C := C0
  intro k
  induction k with
  | zero => intro x2 x4 x5 β τ ν y4 β' τ' ν' H locs hf
            cases hf
  | succ k ih =>
    intro x2 x4 x5 β τ ν y4 β' τ' ν' H locs hf hP hD hS ls hl hk0
    rw [bl_skies_L35] at hf
    refine lv_iload hx hb dX1_skies_35 (lv_at hl 4 rfl) ?_
    refine lv_iload_n hx hb dX1_skies_37 rfl (lv_at hl 1 rfl) ?_
    refine lv_icmp_ge (tgt := 77) hx hb dX1_skies_38 (by decide) (fun c8 => ?_) (fun c8 => ?_)
    · have hf := bq_ip c8 hf
      obtain ⟨rfl, rfl, rfl, rfl⟩ := bq_p4 hf
      exact hk0 _ _ hP hD hS ls (lv_sub hl [0, 2, 3] rfl)
    · have hf := bq_in c8 hf
      refine lv_aload_n hx hb dX1_skies_41 rfl (lv_at hl 0 rfl) ?_
      obtain ⟨β9, τ10, hg, hf⟩ := bq_b2s hf
      refine bq_cV (bs := [bbB d ba ca na ta ka ia β, stB d na σ, stB d ta τ, viB d ca ν, coB d ca dy fa κ, lsB d ca L mc E.1, giB ca E.1 κ, P]) (bc := [bbB d ba ca na ta ka ia β, stB d ta τ, coB d ca dy fa κ, lsB d ca L mc E.1]) (br := [stB d na σ, viB d ca ν, giB ca E.1 κ, P]) (bc' := [bbB d ba ca na ta ka ia β9, stB d ta τ10, coB d ca dy fa κ, lsB d ca L mc E.1]) (bs' := [bbB d ba ca na ta ka ia β9, stB d na σ, stB d ta τ10, viB d ca ν, coB d ca dy fa κ, lsB d ca L mc E.1, giB ca E.1 κ, P]) (As := []) (rest := []) (o := none) C hkc hks (met_bl_happens hok hamb hL hg) (bq_pm [0, 2, 4, 5, 1, 3, 6, 7] rfl rfl rfl) (bq_pm [0, 4, 1, 5, 2, 3, 6, 7] rfl rfl rfl) (lw_V q1661 q1663 qs47 q113 q1664) (hd_X1_happens) (Nat.le_of_ble_eq_true rfl) (Nat.le_of_ble_eq_true rfl) (va_recv hK hP (ci := 1) (q0 := 0) rfl rfl) rfl hl.1 rfl (Nat.le_of_ble_eq_true rfl) dX1_skies_42 hP hD hS (fun H locs hP hD hS => ?_)
      refine lv_aload_n hx hb dX1_skies_45 rfl (lv_at hl 0 rfl) ?_
      refine gX1_get (own := RX1) (fs := (bbF ba ca na ta ka ia β9)) (v := .ref (ta 0)) hx hb hts hown hK hP (q0 := 0) rfl 4 (Nat.le_of_ble_eq_true rfl) (hts _ q759) rfl dX1_skies_46 ?_
      refine lv_aload_n hx hb dX1_skies_49 rfl (lv_at hl 0 rfl) ?_
      refine gX1_get (own := RX1) (fs := (bbF ba ca na ta ka ia β9)) (v := .ref (ca 0)) hx hb hts hown hK hP (q0 := 0) rfl 0 (Nat.le_of_ble_eq_true rfl) (hts _ q755) rfl dX1_skies_50 ?_
      obtain ⟨τ11, ν12, hg, hf⟩ := bq_b2s hf
      refine bq_cV (bs := [bbB d ba ca na ta ka ia β9, stB d na σ, stB d ta τ10, viB d ca ν, coB d ca dy fa κ, lsB d ca L mc E.1, giB ca E.1 κ, P]) (bc := [stB d ta τ10, viB d ca ν, coB d ca dy fa κ, lsB d ca L mc E.1, giB ca E.1 κ, P]) (br := [bbB d ba ca na ta ka ia β9, stB d na σ]) (bc' := [stB d ta τ11, viB d ca ν12, coB d ca dy fa κ, lsB d ca L mc E.1, giB ca E.1 κ, P]) (bs' := [bbB d ba ca na ta ka ia β9, stB d na σ, stB d ta τ11, viB d ca ν12, coB d ca dy fa κ, lsB d ca L mc E.1, giB ca E.1 κ, P]) (As := [.ref (ca 0)]) (rest := []) (o := none) C hkc hks (met_st_goes hok hamb hE hby hL hg) (bq_pm [2, 3, 4, 5, 6, 7, 0, 1] rfl rfl rfl) (bq_pm [6, 7, 0, 1, 2, 3, 4, 5] rfl rfl rfl) (lw_V q844 q845 q846 q138 q847) (hd_X6_goes) (Nat.le_of_ble_eq_true rfl) (Nat.le_of_ble_eq_true rfl) (va_recv hK hP (ci := 5) (q0 := 11) rfl rfl) rfl hl.1 rfl (Nat.le_of_ble_eq_true rfl) dX1_skies_53 hP hD hS (fun H locs hP hD hS => ?_)
      refine lv_iload hx hb dX1_skies_56 (lv_at hl 3 rfl) ?_
      refine lv_aload_n hx hb dX1_skies_58 rfl (lv_at hl 0 rfl) ?_
      refine gX1_get (own := RX1) (fs := (bbF ba ca na ta ka ia β9)) (v := .ref (ta 0)) hx hb hts hown hK hP (q0 := 0) rfl 4 (Nat.le_of_ble_eq_true rfl) (hts _ q759) rfl dX1_skies_59 ?_
      refine gX6_getN (own := RX1) (host := "BlueBag") (fs := (stF ta τ11)) (v := .int (τ11 0 8)) hx hb hts hown hK hP (q0 := 11) rfl 8 (Nat.le_of_ble_eq_true rfl) (bq_nF hamb hm 18 rfl) rfl dX1_skies_62 ?_
      obtain ⟨v13, hg, hf⟩ := bq_b1s hf
      refine bq_cS (bs := [bbB d ba ca na ta ka ia β9, stB d na σ, stB d ta τ11, viB d ca ν12, coB d ca dy fa κ, lsB d ca L mc E.1, giB ca E.1 κ, P]) (bc := []) (br := [bbB d ba ca na ta ka ia β9, stB d na σ, stB d ta τ11, viB d ca ν12, coB d ca dy fa κ, lsB d ca L mc E.1, giB ca E.1 κ, P]) (bc' := []) (bs' := [bbB d ba ca na ta ka ia β9, stB d na σ, stB d ta τ11, viB d ca ν12, coB d ca dy fa κ, lsB d ca L mc E.1, giB ca E.1 κ, P]) (As := [.int (τ11 0 8)]) (rest := [.int x4]) (o := (some (.int v13))) C hkc hks (met_jd_bits hok hg) (bq_pm [0, 1, 2, 3, 4, 5, 6, 7] rfl rfl rfl) (bq_pm [0, 1, 2, 3, 4, 5, 6, 7] rfl rfl rfl) (lw_S q1565 q935 q133 q936) (hd_J16_bitCount) (Nat.le_of_ble_eq_true rfl) (Nat.le_of_ble_eq_true rfl) rfl hl.1 rfl (Nat.le_of_ble_eq_true rfl) dX1_skies_65 hP hD hS (fun H locs hP hD hS => ?_)
      refine lv_iadd hx hb dX1_skies_68 ?_
      obtain ⟨v14, ev14, hf⟩ := bq_lts hf
      refine bq_tope ev14 ?_
      refine lv_istore (lv' := [(4, .int v14), (0, .ref (ba 0)), (2, .int x2), (3, .int x3), (5, .int x5)]) hx hb dX1_skies_69 hl (by decide) rfl (fun ls hl => ?_)
      obtain ⟨v15, ev15, hf⟩ := bq_lts hf
      refine lv_iinc (v := v15) (lv' := [(5, .int v15), (4, .int v14), (0, .ref (ba 0)), (2, .int x2), (3, .int x3)]) hx hb dX1_skies_71 hl (k := 4) rfl (bq_inc (by decide) ev15) (by decide) rfl (fun ls hl => ?_)
      refine lv_goto (tgt := 35) hx hb dX1_skies_74 (by decide) ?_
      exact ih _ _ _ _ _ _ _ _ _ _ _ _ hf hP hD hS ls (lv_sub hl [2, 3, 4, 1, 0] rfl) hk0
set_option maxHeartbeats 4000000 in
theorem met_bl_skies {l : Launch} {D : va_G} {am : bqAm} {X vE sE : Nat → Nat} {d : Nat → ClassId} {ba ca ia ka na ta : Nat → Nat} {dy fa : Option Nat} {L : Nat} {mc : Int32} {P : va_W} {F : Nat} {E : bqE} {β : bqS} {σ : bqS} {τ : bqS} {ν : bqS} {κ : bqS} {β' : bqS} {τ' : bqS} {ν' : bqS} {r : Int32} {tg : Nat} {x1 : Int32} {x2 : Int32} {x3 : Int32} (hok : bq_Ok am) (hamb : bq_Amb am X vE sE) (hst : l.stackTraces = false) (hE : bq_E P vE dy fa E) (hby : bq_By l D am d ca vE P 400) (hL : E.1 ≤ L ∧ L < 2147483648) (hf : bl_skies F E β σ τ ν κ x1 x2 x3 = some (tg, r, β', τ', ν')) : bq_X l yX1_skies cX1_skies 6 (some .int) 805 24152 2 12 D bqCl (bqTy d) am [.ref (ba 0), .int x1, .int x2, .int x3] (List.flatten ([bbB d ba ca na ta ka ia β, stB d na σ, stB d ta τ, viB d ca ν, coB d ca dy fa κ, lsB d ca L mc E.1, giB ca E.1 κ, P] : List va_W)) tg (some (.int r)) (List.flatten ([bbB d ba ca na ta ka ia β', stB d na σ, stB d ta τ', viB d ca ν', coB d ca dy fa κ, lsB d ca L mc E.1, giB ca E.1 κ, P] : List va_W)) := by
  unfold bl_skies at hf
  refine bq_ofX hok (by decide +kernel) (Nat.le_of_ble_eq_true rfl) ?_
  intro p e s m below meth c A ls C hr hex hP hD hS hl
  have C0 := C
  obtain ⟨hx, hb, hown, hts, hml, hlocks, hA, hK, hm, hRf, hRl, hok⟩ := C
  have C := C0
  have hkc := Nat.zero_le 2
  have hks := Nat.zero_le 12
  have hl : lv_has ls 6 [(0, .ref (ba 0)), (1, .int x1), (2, .int x2), (3, .int x3)] := hl
  refine lv_iload_n hx hb dX1_skies_0 rfl (lv_at hl 3 rfl) ?_
  refine lv_iconst (v := (0 : Int32)) hx hb dX1_skies_1 (by decide) ?_
  refine lv_iconst (v := (2 : Int32)) hx hb dX1_skies_2 (by decide) ?_
  obtain ⟨v1, hg, hf⟩ := bq_b1s hf
  refine bq_cS (bs := [bbB d ba ca na ta ka ia β, stB d na σ, stB d ta τ, viB d ca ν, coB d ca dy fa κ, lsB d ca L mc E.1, giB ca E.1 κ, P]) (bc := []) (br := [bbB d ba ca na ta ka ia β, stB d na σ, stB d ta τ, viB d ca ν, coB d ca dy fa κ, lsB d ca L mc E.1, giB ca E.1 κ, P]) (bc' := []) (bs' := [bbB d ba ca na ta ka ia β, stB d na σ, stB d ta τ, viB d ca ν, coB d ca dy fa κ, lsB d ca L mc E.1, giB ca E.1 κ, P]) (As := [.int x3, .int (0 : Int32), .int (2 : Int32)]) (rest := []) (o := (some (.int v1))) C hkc hks (met_bl_within hok hg) (bq_pm [0, 1, 2, 3, 4, 5, 6, 7] rfl rfl rfl) (bq_pm [0, 1, 2, 3, 4, 5, 6, 7] rfl rfl rfl) (lw_S q814 q815 q113 q816) (hd_X1_within) (Nat.le_of_ble_eq_true rfl) (Nat.le_of_ble_eq_true rfl) rfl hl.1 rfl (Nat.le_of_ble_eq_true rfl) dX1_skies_3 hP hD hS (fun H locs hP hD hS => ?_)
  obtain ⟨t2, hg, hf⟩ := bq_b1s hf
  refine bq_cSX (bs := [bbB d ba ca na ta ka ia β, stB d na σ, stB d ta τ, viB d ca ν, coB d ca dy fa κ, lsB d ca L mc E.1, giB ca E.1 κ, P]) (bc := []) (br := [bbB d ba ca na ta ka ia β, stB d na σ, stB d ta τ, viB d ca ν, coB d ca dy fa κ, lsB d ca L mc E.1, giB ca E.1 κ, P]) (bc' := []) (bs' := [bbB d ba ca na ta ka ia β, stB d na σ, stB d ta τ, viB d ca ν, coB d ca dy fa κ, lsB d ca L mc E.1, giB ca E.1 κ, P]) (As := [.int v1]) (rest := []) (o := none) C (Nat.le_of_ble_eq_true rfl) (Nat.le_of_ble_eq_true rfl) (met_bl_there hok hamb hst hg) (bq_pm [0, 1, 2, 3, 4, 5, 6, 7] rfl rfl rfl) (bq_pm [0, 1, 2, 3, 4, 5, 6, 7] rfl rfl rfl) (lw_S q1394 q1395 q113 q1396) (hd_X1_there) (Nat.le_of_ble_eq_true rfl) (Nat.le_of_ble_eq_true rfl) rfl hl.1 rfl (Nat.le_of_ble_eq_true rfl) dX1_skies_6 hP hD hS (fun ht_ H locs hP hD hS => ?_) (fun ht_ => ?_)
  · have hf := bq_ip ht_ hf
    have hkc : 1 ≤ 2 := by decide
    have hks : 6 ≤ 12 := by decide
    refine lv_iload_n hx hb dX1_skies_9 rfl (lv_at hl 2 rfl) ?_
    refine lv_iconst (v := (0 : Int32)) hx hb dX1_skies_10 (by decide) ?_
    refine lv_bipush (v := (40 : Int32)) hx hb dX1_skies_11 (by decide) ?_
    obtain ⟨v3, hg, hf⟩ := bq_b1s hf
    refine bq_cS (bs := [bbB d ba ca na ta ka ia β, stB d na σ, stB d ta τ, viB d ca ν, coB d ca dy fa κ, lsB d ca L mc E.1, giB ca E.1 κ, P]) (bc := []) (br := [bbB d ba ca na ta ka ia β, stB d na σ, stB d ta τ, viB d ca ν, coB d ca dy fa κ, lsB d ca L mc E.1, giB ca E.1 κ, P]) (bc' := []) (bs' := [bbB d ba ca na ta ka ia β, stB d na σ, stB d ta τ, viB d ca ν, coB d ca dy fa κ, lsB d ca L mc E.1, giB ca E.1 κ, P]) (As := [.int x2, .int (0 : Int32), .int (40 : Int32)]) (rest := []) (o := (some (.int v3))) C hkc hks (met_bl_within hok hg) (bq_pm [0, 1, 2, 3, 4, 5, 6, 7] rfl rfl rfl) (bq_pm [0, 1, 2, 3, 4, 5, 6, 7] rfl rfl rfl) (lw_S q814 q815 q113 q816) (hd_X1_within) (Nat.le_of_ble_eq_true rfl) (Nat.le_of_ble_eq_true rfl) rfl hl.1 rfl (Nat.le_of_ble_eq_true rfl) dX1_skies_13 hP hD hS (fun H locs hP hD hS => ?_)
    obtain ⟨t4, hg, hf⟩ := bq_b1s hf
    refine bq_cSX (bs := [bbB d ba ca na ta ka ia β, stB d na σ, stB d ta τ, viB d ca ν, coB d ca dy fa κ, lsB d ca L mc E.1, giB ca E.1 κ, P]) (bc := []) (br := [bbB d ba ca na ta ka ia β, stB d na σ, stB d ta τ, viB d ca ν, coB d ca dy fa κ, lsB d ca L mc E.1, giB ca E.1 κ, P]) (bc' := []) (bs' := [bbB d ba ca na ta ka ia β, stB d na σ, stB d ta τ, viB d ca ν, coB d ca dy fa κ, lsB d ca L mc E.1, giB ca E.1 κ, P]) (As := [.int v3]) (rest := []) (o := none) C (Nat.le_of_ble_eq_true rfl) (Nat.le_of_ble_eq_true rfl) (met_bl_right hok hamb hst hg) (bq_pm [0, 1, 2, 3, 4, 5, 6, 7] rfl rfl rfl) (bq_pm [0, 1, 2, 3, 4, 5, 6, 7] rfl rfl rfl) (lw_S q1021 q1022 q113 q1023) (hd_X1_right) (Nat.le_of_ble_eq_true rfl) (Nat.le_of_ble_eq_true rfl) rfl hl.1 rfl (Nat.le_of_ble_eq_true rfl) dX1_skies_16 hP hD hS (fun ht_ H locs hP hD hS => ?_) (fun ht_ => ?_)
    · have hf := bq_ip ht_ hf
      have hkc : 2 ≤ 2 := by decide
      have hks : 12 ≤ 12 := by decide
      refine lv_aload_n hx hb dX1_skies_19 rfl (lv_at hl 0 rfl) ?_
      refine lv_iconst (v := (0 : Int32)) hx hb dX1_skies_20 (by decide) ?_
      obtain ⟨τ5, ν6, hg, hf⟩ := bq_b2s hf
      refine bq_cV (bs := [bbB d ba ca na ta ka ia β, stB d na σ, stB d ta τ, viB d ca ν, coB d ca dy fa κ, lsB d ca L mc E.1, giB ca E.1 κ, P]) (bc := [bbB d ba ca na ta ka ia β, stB d na σ, stB d ta τ, viB d ca ν, coB d ca dy fa κ, lsB d ca L mc E.1, giB ca E.1 κ, P]) (br := []) (bc' := [bbB d ba ca na ta ka ia β, stB d na σ, stB d ta τ5, viB d ca ν6, coB d ca dy fa κ, lsB d ca L mc E.1, giB ca E.1 κ, P]) (bs' := [bbB d ba ca na ta ka ia β, stB d na σ, stB d ta τ5, viB d ca ν6, coB d ca dy fa κ, lsB d ca L mc E.1, giB ca E.1 κ, P]) (As := [.int (0 : Int32)]) (rest := []) (o := none) C hkc hks (met_bl_tries hok hamb hE hby hL hg) (bq_pm [0, 1, 2, 3, 4, 5, 6, 7] rfl rfl rfl) (bq_pm [0, 1, 2, 3, 4, 5, 6, 7] rfl rfl rfl) (lw_V q959 q961 qs10 q113 q962) (hd_X1_tries) (Nat.le_of_ble_eq_true rfl) (Nat.le_of_ble_eq_true rfl) (va_recv hK hP (ci := 1) (q0 := 0) rfl rfl) rfl hl.1 rfl (Nat.le_of_ble_eq_true rfl) dX1_skies_21 hP hD hS (fun H locs hP hD hS => ?_)
      refine lv_aload_n hx hb dX1_skies_24 rfl (lv_at hl 0 rfl) ?_
      refine lv_iload_n hx hb dX1_skies_25 rfl (lv_at hl 1 rfl) ?_
      obtain ⟨β7, eβ7, hf⟩ := bq_lts hf
      refine gX1_put (own := RX1) (fs := (bbF ba ca na ta ka ia β)) (ty := .int) (ws' := (List.flatten ([bbB d ba ca na ta ka ia (bq_up β 0 13 x1), stB d na σ, stB d ta τ5, viB d ca ν6, coB d ca dy fa κ, lsB d ca L mc E.1, giB ca E.1 κ, P] : List va_W))) hx hb hts hown hK hP hD hS (q0 := 0) rfl 13 (Nat.le_of_ble_eq_true rfl) (hts _ q768) rfl rfl rfl rfl (Nat.le_of_ble_eq_true rfl) rfl dX1_skies_26 (fun H locs hP hD hS => ?_)
      rw [← eβ7] at hP hD
      refine lv_iconst (v := (0 : Int32)) hx hb dX1_skies_29 (by decide) ?_
      refine lv_istore (lv' := [(4, .int (0 : Int32)), (0, .ref (ba 0)), (1, .int x1), (2, .int x2), (3, .int x3)]) hx hb dX1_skies_30 hl (by decide) rfl (fun ls hl => ?_)
      refine lv_iconst (v := (0 : Int32)) hx hb dX1_skies_32 (by decide) ?_
      refine lv_istore (lv' := [(5, .int (0 : Int32)), (4, .int (0 : Int32)), (0, .ref (ba 0)), (1, .int x1), (2, .int x2), (3, .int x3)]) hx hb dX1_skies_33 hl (by decide) rfl (fun ls hl => ?_)
      obtain ⟨v16, β17, τ18, ν19, hg, hf⟩ := bq_b4s hf
      refine wk_bl_skies_L35 C hkc hks hamb hst hE hby hL _ _ _ _ _ _ _ _ _ _ _ _ _ hg hP hD hS ls (lv_sub hl [2, 4, 5, 1, 0] rfl) ?_
      · intro H locs hP hD hS ls hl
        refine lv_iload_n hx hb dX1_skies_77 rfl (lv_at hl 1 rfl) ?_
        refine lv_if_ne (tgt := 86) hx hb dX1_skies_78 (by decide) (fun c20 => ?_) (fun c20 => ?_)
        · have hf := bq_in c20 hf
          refine lv_iload_n hx hb dX1_skies_86 rfl (lv_at hl 1 rfl) ?_
          refine lv_iconst (v := (1 : Int32)) hx hb dX1_skies_87 (by decide) ?_
          refine lv_icmp_ne (tgt := 105) hx hb dX1_skies_88 (by decide) (fun c21 => ?_) (fun c21 => ?_)
          · have hf := bq_in c21 hf
            refine lv_aload_n hx hb dX1_skies_105 rfl (lv_at hl 0 rfl) ?_
            refine gX1_get (own := RX1) (fs := (bbF ba ca na ta ka ia β17)) (v := .ref (ta 0)) hx hb hts hown hK hP (q0 := 0) rfl 4 (Nat.le_of_ble_eq_true rfl) (hts _ q759) rfl dX1_skies_106 ?_
            refine gX6_getN (own := RX1) (host := "BlueBag") (fs := (stF ta τ18)) (v := .int (τ18 0 4)) hx hb hts hown hK hP (q0 := 11) rfl 4 (Nat.le_of_ble_eq_true rfl) (bq_nF hamb hm 9 rfl) rfl dX1_skies_109 ?_
            obtain ⟨rfl, rfl, rfl, rfl, rfl⟩ := bq_p5 hf
            exact bq_iretX C hr (by decide) (by decide) hP hD hS dX1_skies_112
          · have hf := bq_ip c21 hf
            refine lv_aload_n hx hb dX1_skies_91 rfl (lv_at hl 0 rfl) ?_
            refine gX1_get (own := RX1) (fs := (bbF ba ca na ta ka ia β17)) (v := .ref (ta 0)) hx hb hts hown hK hP (q0 := 0) rfl 4 (Nat.le_of_ble_eq_true rfl) (hts _ q759) rfl dX1_skies_92 ?_
            refine lv_aload_n hx hb dX1_skies_95 rfl (lv_at hl 0 rfl) ?_
            obtain ⟨v22, hg, hf⟩ := bq_b1s hf
            refine bq_cV (bs := [bbB d ba ca na ta ka ia β17, stB d na σ, stB d ta τ18, viB d ca ν19, coB d ca dy fa κ, lsB d ca L mc E.1, giB ca E.1 κ, P]) (bc := [bbB d ba ca na ta ka ia β17, coB d ca dy fa κ]) (br := [stB d na σ, stB d ta τ18, viB d ca ν19, lsB d ca L mc E.1, giB ca E.1 κ, P]) (bc' := [bbB d ba ca na ta ka ia β17, coB d ca dy fa κ]) (bs' := [bbB d ba ca na ta ka ia β17, stB d na σ, stB d ta τ18, viB d ca ν19, coB d ca dy fa κ, lsB d ca L mc E.1, giB ca E.1 κ, P]) (As := []) (rest := [.ref (ta 0)]) (o := (some (.int v22))) C hkc hks (met_bl_cells hok hamb hg) (bq_pm [0, 4, 1, 2, 3, 5, 6, 7] rfl rfl rfl) (bq_pm [0, 2, 3, 4, 1, 5, 6, 7] rfl rfl rfl) (lw_V q990 q992 qs13 q113 q993) (hd_X1_cells) (Nat.le_of_ble_eq_true rfl) (Nat.le_of_ble_eq_true rfl) (va_recv hK hP (ci := 1) (q0 := 0) rfl rfl) rfl hl.1 rfl (Nat.le_of_ble_eq_true rfl) dX1_skies_96 hP hD hS (fun H locs hP hD hS => ?_)
            obtain ⟨v23, hg, hf⟩ := bq_b1s hf
            refine bq_cV (bs := [bbB d ba ca na ta ka ia β17, stB d na σ, stB d ta τ18, viB d ca ν19, coB d ca dy fa κ, lsB d ca L mc E.1, giB ca E.1 κ, P]) (bc := [stB d ta τ18]) (br := [bbB d ba ca na ta ka ia β17, stB d na σ, viB d ca ν19, coB d ca dy fa κ, lsB d ca L mc E.1, giB ca E.1 κ, P]) (bc' := [stB d ta τ18]) (bs' := [bbB d ba ca na ta ka ia β17, stB d na σ, stB d ta τ18, viB d ca ν19, coB d ca dy fa κ, lsB d ca L mc E.1, giB ca E.1 κ, P]) (As := [.int v22]) (rest := []) (o := (some (.int v23))) C hkc hks (met_st_all hok hamb hg) (bq_pm [2, 0, 1, 3, 4, 5, 6, 7] rfl rfl rfl) (bq_pm [1, 2, 0, 3, 4, 5, 6, 7] rfl rfl rfl) (lw_V q1412 q1413 q1414 q138 q1415) (hd_X6_all) (Nat.le_of_ble_eq_true rfl) (Nat.le_of_ble_eq_true rfl) (va_recv hK hP (ci := 5) (q0 := 11) rfl rfl) rfl hl.1 rfl (Nat.le_of_ble_eq_true rfl) dX1_skies_99 hP hD hS (fun H locs hP hD hS => ?_)
            refine lv_goto (tgt := 112) hx hb dX1_skies_102 (by decide) ?_
            obtain ⟨rfl, rfl, rfl, rfl, rfl⟩ := bq_p5 hf
            exact bq_iretX C hr (by decide) (by decide) hP hD hS dX1_skies_112
        · have hf := bq_ip c20 hf
          refine lv_iload hx hb dX1_skies_81 (lv_at hl 2 rfl) ?_
          refine lv_goto (tgt := 112) hx hb dX1_skies_83 (by decide) ?_
          obtain ⟨rfl, rfl, rfl, rfl, rfl⟩ := bq_p5 hf
          exact bq_iretX C hr (by decide) (by decide) hP hD hS dX1_skies_112
    · have hf := bq_in ht_ hf
      obtain ⟨rfl, rfl, rfl, rfl, rfl⟩ := bq_p5 hf
      exact bq_prop C hex ht_ (by decide) (by decide)
  · have hf := bq_in ht_ hf
    obtain ⟨rfl, rfl, rfl, rfl, rfl⟩ := bq_p5 hf
    exact bq_prop C hex ht_ (by decide) (by decide)
