set_option maxRecDepth 100000
set_option maxHeartbeats 4000000 in
theorem wk_bl_streak_L19 {p : Program} {e : Env} {R : Room} {s : State} {m : MethodId} {args : Array Value} {below : List Frame} {meth : Method} {c : Code} {A : Nat → Prop} {kc ks : Nat} {Q : State → Prop} {l : Launch} {D : va_G} {am : bqAm} {X vE sE : Nat → Nat} {d : Nat → ClassId} {ba ca ia ka na ta : Nat → Nat} {dy fa : Option Nat} {F : Nat} (C : bq_C p R s m args meth c A D bqCl (bqTy d) am cX1_streak 6 RX1 7 110) (hkc : kc ≤ R.cells) (hks : ks ≤ R.slots) (hamb : bq_Amb am X vE sE) (hst : l.stackTraces = false) {β : bqS} {σ : bqS} {κ : bqS} {x1 : Int32} :
    ∀ (k : Nat) (x2 : Int32) (x3 : Int32) (x4 : Int32) (x5 : Int32) (y2 : Int32) (y3 : Int32) (H : Heap) (locs : List Loc), bl_streak_L19 F β σ κ k x2 x3 x4 x5 = some (y2, y3) → va_P D bqCl (List.flatten ([bbB d ba ca na ta ka ia β, stB d na σ, coB d ca dy fa κ] : List va_W)) H → va_D A (List.flatten ([bbB d ba ca na ta ka ia β, stB d na σ, coB d ca dy fa κ] : List va_W)) → va_S A s.heap H locs → ∀ ls : Array Slot, lv_has ls 6 [(0, .ref (ba 0)), (1, .int x1), (2, .int x2), (3, .int x3), (4, .int x4), (5, .int x5)] →
      (∀ (H : Heap) (locs : List Loc), va_P D bqCl (List.flatten ([bbB d ba ca na ta ka ia β, stB d na σ, coB d ca dy fa κ] : List va_W)) H → va_D A (List.flatten ([bbB d ba ca na ta ka ia β, stB d na σ, coB d ca dy fa κ] : List va_W)) → va_S A s.heap H locs → ∀ ls : Array Slot, lv_has ls 6 [(1, .int x1), (2, .int y2), (3, .int y3)] → W p l e R s m args below meth c H locs kc ks Q (F0 m 102 ls [])) →
      W p l e R s m args below meth c H locs kc ks Q (F0 m 19 ls []) := by
  have C0 := C
  obtain ⟨hx, hb, hown, hts, hml, hlocks, hA, hK, hm, hRf, hRl, hok⟩ := C
  have C := C0
  intro k
  induction k with
  | zero => intro x2 x3 x4 x5 y2 y3 H locs hf
            cases hf
  | succ k ih =>
    intro x2 x3 x4 x5 y2 y3 H locs hf hP hD hS ls hl hk0
    rw [bl_streak_L19] at hf
    refine lv_iload hx hb dX1_streak_19 (lv_at hl 5 rfl) ?_
    refine lv_aload_n hx hb dX1_streak_21 rfl (lv_at hl 0 rfl) ?_
    obtain ⟨v3, hg, hf⟩ := bq_b1s hf
    refine bq_cV (bs := [bbB d ba ca na ta ka ia β, stB d na σ, coB d ca dy fa κ]) (bc := [bbB d ba ca na ta ka ia β, coB d ca dy fa κ]) (br := [stB d na σ]) (bc' := [bbB d ba ca na ta ka ia β, coB d ca dy fa κ]) (bs' := [bbB d ba ca na ta ka ia β, stB d na σ, coB d ca dy fa κ]) (As := []) (rest := [.int x5]) (o := (some (.int v3))) C hkc hks (met_bl_cells hok hamb hg) (bq_pm [0, 2, 1] rfl rfl rfl) (bq_pm [0, 2, 1] rfl rfl rfl) (lw_V q990 q992 qs13 q113 q993) (hd_X1_cells) (Nat.le_of_ble_eq_true rfl) (Nat.le_of_ble_eq_true rfl) (va_recv hK hP (ci := 1) (q0 := 0) rfl rfl) rfl hl.1 rfl (Nat.le_of_ble_eq_true rfl) dX1_streak_22 hP hD hS (fun H locs hP hD hS => ?_)
    refine lv_icmp_ge (tgt := 102) hx hb dX1_streak_25 (by decide) (fun c4 => ?_) (fun c4 => ?_)
    · have hf := bq_ip c4 hf
      obtain ⟨rfl, rfl⟩ := bq_p2 hf
      exact hk0 _ _ hP hD hS ls (lv_sub hl [1, 2, 3] rfl)
    · have hf := bq_in c4 hf
      refine lv_iload hx hb dX1_streak_28 (lv_at hl 5 rfl) ?_
      refine lv_aload_n hx hb dX1_streak_30 rfl (lv_at hl 0 rfl) ?_
      refine gX1_get (own := RX1) (fs := (bbF ba ca na ta ka ia β)) (v := .ref (ca 0)) hx hb hts hown hK hP (q0 := 0) rfl 0 (Nat.le_of_ble_eq_true rfl) (hts _ q755) rfl dX1_streak_31 ?_
      refine gX2_getN (own := RX1) (host := "BlueBag") (fs := (coF ca dy fa κ)) (v := .int (κ 0 0)) hx hb hts hown hK hP (q0 := 11) rfl 0 (Nat.le_of_ble_eq_true rfl) (bq_nF hamb hm 7 rfl) rfl dX1_streak_34 ?_
      obtain ⟨h5, hf⟩ := bq_nzs hf
      refine lv_irem hx hb dX1_streak_37 h5 ?_
      refine lv_if_le (tgt := 73) hx hb dX1_streak_38 (by decide) (fun c6 => ?_) (fun c6 => ?_)
      · have hf := bq_ip c6 hf
        exact wk_bl_streak_J73 C hkc hks hamb hst _ _ _ _ _ _ _ _ _ _ _ _ _ (fun z0_ z1_ z2_ z3_ H locs hf hP hD hS ls hl => ih z0_ z1_ z2_ z3_ _ _ H locs hf hP hD hS ls hl hk0) hf hP hD hS ls (lv_sub hl [0, 1, 2, 3, 4, 5] rfl) hk0
      · have hf := bq_in c6 hf
        refine lv_aload_n hx hb dX1_streak_41 rfl (lv_at hl 0 rfl) ?_
        refine gX1_get (own := RX1) (fs := (bbF ba ca na ta ka ia β)) (v := .ref (na 0)) hx hb hts hown hK hP (q0 := 0) rfl 3 (Nat.le_of_ble_eq_true rfl) (hts _ q758) rfl dX1_streak_42 ?_
        refine gX6_getN (own := RX1) (host := "BlueBag") (fs := (stF na σ)) (v := .ref (na 1)) hx hb hts hown hK hP (q0 := 6) rfl 0 (Nat.le_of_ble_eq_true rfl) (bq_nF hamb hm 15 rfl) rfl dX1_streak_45 ?_
        refine lv_iload hx hb dX1_streak_48 (lv_at hl 5 rfl) ?_
        obtain ⟨h11, hf⟩ := bq_cks hf
        refine bq_ild (j := x5.toNatClampNeg) (f := σ 1) (q := 0) hx hb hK hP 7 rfl rfl h11 rfl dX1_streak_50 ?_
        refine lv_aload_n hx hb dX1_streak_51 rfl (lv_at hl 0 rfl) ?_
        refine gX1_get (own := RX1) (fs := (bbF ba ca na ta ka ia β)) (v := .ref (na 0)) hx hb hts hown hK hP (q0 := 0) rfl 3 (Nat.le_of_ble_eq_true rfl) (hts _ q758) rfl dX1_streak_52 ?_
        refine gX6_getN (own := RX1) (host := "BlueBag") (fs := (stF na σ)) (v := .ref (na 1)) hx hb hts hown hK hP (q0 := 6) rfl 0 (Nat.le_of_ble_eq_true rfl) (bq_nF hamb hm 15 rfl) rfl dX1_streak_55 ?_
        refine lv_iload hx hb dX1_streak_58 (lv_at hl 5 rfl) ?_
        refine lv_iconst (v := (1 : Int32)) hx hb dX1_streak_60 (by decide) ?_
        refine lv_isub hx hb dX1_streak_61 ?_
        obtain ⟨h12, hf⟩ := bq_cks hf
        refine bq_ild (j := ((x5 - (1 : Int32)).toNatClampNeg)) (f := σ 1) (q := 0) hx hb hK hP 7 rfl rfl h12 rfl dX1_streak_62 ?_
        refine lv_icmp_ne (tgt := 73) hx hb dX1_streak_63 (by decide) (fun c13 => ?_) (fun c13 => ?_)
        · have hf := bq_in c13 hf
          exact wk_bl_streak_J73 C hkc hks hamb hst _ _ _ _ _ _ _ _ _ _ _ _ _ (fun z0_ z1_ z2_ z3_ H locs hf hP hD hS ls hl => ih z0_ z1_ z2_ z3_ _ _ H locs hf hP hD hS ls hl hk0) hf hP hD hS ls (lv_sub hl [0, 1, 2, 3, 4, 5] rfl) hk0
        · have hf := bq_ip c13 hf
          refine lv_iload hx hb dX1_streak_66 (lv_at hl 4 rfl) ?_
          refine lv_iconst (v := (1 : Int32)) hx hb dX1_streak_68 (by decide) ?_
          refine lv_iadd hx hb dX1_streak_69 ?_
          refine lv_goto (tgt := 74) hx hb dX1_streak_70 (by decide) ?_
          obtain ⟨v14, ev14, hf⟩ := bq_lts hf
          refine bq_tope ev14 ?_
          refine lv_istore (lv' := [(4, .int v14), (0, .ref (ba 0)), (1, .int x1), (2, .int x2), (3, .int x3), (5, .int x5)]) hx hb dX1_streak_74 hl (by decide) rfl (fun ls hl => ?_)
          refine lv_iload hx hb dX1_streak_76 (lv_at hl 0 rfl) ?_
          refine lv_iload_n hx hb dX1_streak_78 rfl (lv_at hl 3 rfl) ?_
          refine lv_icmp_gt (tgt := 85) hx hb dX1_streak_79 (by decide) (fun c15 => ?_) (fun c15 => ?_)
          · have hf := bq_ip c15 hf
            refine lv_iload hx hb dX1_streak_85 (lv_at hl 0 rfl) ?_
            refine lv_istore_n (lv' := [(2, .int v14), (4, .int v14), (0, .ref (ba 0)), (1, .int x1), (3, .int x3), (5, .int x5)]) hx hb dX1_streak_87 rfl hl (by decide) rfl (fun ls hl => ?_)
            refine lv_iload hx hb dX1_streak_88 (lv_at hl 5 rfl) ?_
            refine lv_iload hx hb dX1_streak_90 (lv_at hl 1 rfl) ?_
            refine lv_isub hx hb dX1_streak_92 ?_
            refine lv_iconst (v := (1 : Int32)) hx hb dX1_streak_93 (by decide) ?_
            refine lv_iadd hx hb dX1_streak_94 ?_
            obtain ⟨v16, ev16, hf⟩ := bq_lts hf
            refine bq_tope ev16 ?_
            refine lv_istore_n (lv' := [(3, .int v16), (2, .int v14), (4, .int v14), (0, .ref (ba 0)), (1, .int x1), (5, .int x5)]) hx hb dX1_streak_95 rfl hl (by decide) rfl (fun ls hl => ?_)
            obtain ⟨v17, ev17, hf⟩ := bq_lts hf
            refine lv_iinc (v := v17) (lv' := [(5, .int v17), (3, .int v16), (2, .int v14), (4, .int v14), (0, .ref (ba 0)), (1, .int x1)]) hx hb dX1_streak_96 hl (k := 5) rfl (bq_inc (by decide) ev17) (by decide) rfl (fun ls hl => ?_)
            refine lv_goto (tgt := 19) hx hb dX1_streak_99 (by decide) ?_
            exact ih _ _ _ _ _ _ _ _ hf hP hD hS ls (lv_sub hl [4, 5, 2, 1, 3, 0] rfl) hk0
          · have hf := bq_in c15 hf
            refine lv_goto (tgt := 96) hx hb dX1_streak_82 (by decide) ?_
            obtain ⟨v18, ev18, hf⟩ := bq_lts hf
            refine lv_iinc (v := v18) (lv' := [(5, .int v18), (4, .int v14), (0, .ref (ba 0)), (1, .int x1), (2, .int x2), (3, .int x3)]) hx hb dX1_streak_96 hl (k := 5) rfl (bq_inc (by decide) ev18) (by decide) rfl (fun ls hl => ?_)
            refine lv_goto (tgt := 19) hx hb dX1_streak_99 (by decide) ?_
            exact ih _ _ _ _ _ _ _ _ hf hP hD hS ls (lv_sub hl [2, 3, 4, 5, 1, 0] rfl) hk0
set_option maxHeartbeats 4000000 in
theorem met_bl_streak {l : Launch} {D : va_G} {am : bqAm} {X vE sE : Nat → Nat} {d : Nat → ClassId} {ba ca ia ka na ta : Nat → Nat} {dy fa : Option Nat} {F : Nat} {β : bqS} {σ : bqS} {κ : bqS} {r : Int32} {tg : Nat} {x1 : Int32} (hok : bq_Ok am) (hamb : bq_Amb am X vE sE) (hst : l.stackTraces = false) (hf : bl_streak F β σ κ x1 = some (tg, r)) : bq_X l yX1_streak cX1_streak 6 (some .int) 7 110 1 6 D bqCl (bqTy d) am [.ref (ba 0), .int x1] (List.flatten ([bbB d ba ca na ta ka ia β, stB d na σ, coB d ca dy fa κ] : List va_W)) tg (some (.int r)) (List.flatten ([bbB d ba ca na ta ka ia β, stB d na σ, coB d ca dy fa κ] : List va_W)) := by
  unfold bl_streak at hf
  refine bq_ofX hok (by decide +kernel) (Nat.le_of_ble_eq_true rfl) ?_
  intro p e s m below meth c A ls C hr hex hP hD hS hl
  have C0 := C
  obtain ⟨hx, hb, hown, hts, hml, hlocks, hA, hK, hm, hRf, hRl, hok⟩ := C
  have C := C0
  have hkc := Nat.zero_le 1
  have hks := Nat.zero_le 6
  have hl : lv_has ls 6 [(0, .ref (ba 0)), (1, .int x1)] := hl
  refine lv_iload_n hx hb dX1_streak_0 rfl (lv_at hl 1 rfl) ?_
  refine lv_iconst (v := (0 : Int32)) hx hb dX1_streak_1 (by decide) ?_
  refine lv_iconst (v := (1 : Int32)) hx hb dX1_streak_2 (by decide) ?_
  obtain ⟨v1, hg, hf⟩ := bq_b1s hf
  refine bq_cS (bs := [bbB d ba ca na ta ka ia β, stB d na σ, coB d ca dy fa κ]) (bc := []) (br := [bbB d ba ca na ta ka ia β, stB d na σ, coB d ca dy fa κ]) (bc' := []) (bs' := [bbB d ba ca na ta ka ia β, stB d na σ, coB d ca dy fa κ]) (As := [.int x1, .int (0 : Int32), .int (1 : Int32)]) (rest := []) (o := (some (.int v1))) C hkc hks (met_bl_within hok hg) (bq_pm [0, 1, 2] rfl rfl rfl) (bq_pm [0, 1, 2] rfl rfl rfl) (lw_S q814 q815 q113 q816) (hd_X1_within) (Nat.le_of_ble_eq_true rfl) (Nat.le_of_ble_eq_true rfl) rfl hl.1 rfl (Nat.le_of_ble_eq_true rfl) dX1_streak_3 hP hD hS (fun H locs hP hD hS => ?_)
  obtain ⟨t2, hg, hf⟩ := bq_b1s hf
  refine bq_cSX (bs := [bbB d ba ca na ta ka ia β, stB d na σ, coB d ca dy fa κ]) (bc := []) (br := [bbB d ba ca na ta ka ia β, stB d na σ, coB d ca dy fa κ]) (bc' := []) (bs' := [bbB d ba ca na ta ka ia β, stB d na σ, coB d ca dy fa κ]) (As := [.int v1]) (rest := []) (o := none) C (Nat.le_of_ble_eq_true rfl) (Nat.le_of_ble_eq_true rfl) (met_bl_there hok hamb hst hg) (bq_pm [0, 1, 2] rfl rfl rfl) (bq_pm [0, 1, 2] rfl rfl rfl) (lw_S q1394 q1395 q113 q1396) (hd_X1_there) (Nat.le_of_ble_eq_true rfl) (Nat.le_of_ble_eq_true rfl) rfl hl.1 rfl (Nat.le_of_ble_eq_true rfl) dX1_streak_6 hP hD hS (fun ht_ H locs hP hD hS => ?_) (fun ht_ => ?_)
  · have hf := bq_ip ht_ hf
    have hkc : 1 ≤ 1 := by decide
    have hks : 6 ≤ 6 := by decide
    refine lv_iconst (v := (0 : Int32)) hx hb dX1_streak_9 (by decide) ?_
    refine lv_istore_n (lv' := [(2, .int (0 : Int32)), (0, .ref (ba 0)), (1, .int x1)]) hx hb dX1_streak_10 rfl hl (by decide) rfl (fun ls hl => ?_)
    refine lv_iconst (v := (0 : Int32)) hx hb dX1_streak_11 (by decide) ?_
    refine lv_istore_n (lv' := [(3, .int (0 : Int32)), (2, .int (0 : Int32)), (0, .ref (ba 0)), (1, .int x1)]) hx hb dX1_streak_12 rfl hl (by decide) rfl (fun ls hl => ?_)
    refine lv_iconst (v := (0 : Int32)) hx hb dX1_streak_13 (by decide) ?_
    refine lv_istore (lv' := [(4, .int (0 : Int32)), (3, .int (0 : Int32)), (2, .int (0 : Int32)), (0, .ref (ba 0)), (1, .int x1)]) hx hb dX1_streak_14 hl (by decide) rfl (fun ls hl => ?_)
    refine lv_iconst (v := (0 : Int32)) hx hb dX1_streak_16 (by decide) ?_
    refine lv_istore (lv' := [(5, .int (0 : Int32)), (4, .int (0 : Int32)), (3, .int (0 : Int32)), (2, .int (0 : Int32)), (0, .ref (ba 0)), (1, .int x1)]) hx hb dX1_streak_17 hl (by decide) rfl (fun ls hl => ?_)
    obtain ⟨v19, v20, hg, hf⟩ := bq_b2s hf
    refine wk_bl_streak_L19 C hkc hks hamb hst _ _ _ _ _ _ _ _ _ hg hP hD hS ls (lv_sub hl [4, 5, 3, 2, 1, 0] rfl) ?_
    · intro H locs hP hD hS ls hl
      refine lv_iload_n hx hb dX1_streak_102 rfl (lv_at hl 0 rfl) ?_
      refine lv_if_ne (tgt := 110) hx hb dX1_streak_103 (by decide) (fun c21 => ?_) (fun c21 => ?_)
      · have hf := bq_in c21 hf
        refine lv_iload_n hx hb dX1_streak_110 rfl (lv_at hl 2 rfl) ?_
        obtain ⟨rfl, rfl⟩ := bq_p2 hf
        exact bq_iretX C hr (by decide) (by decide) hP hD hS dX1_streak_111
      · have hf := bq_ip c21 hf
        refine lv_iload_n hx hb dX1_streak_106 rfl (lv_at hl 1 rfl) ?_
        refine lv_goto (tgt := 111) hx hb dX1_streak_107 (by decide) ?_
        obtain ⟨rfl, rfl⟩ := bq_p2 hf
        exact bq_iretX C hr (by decide) (by decide) hP hD hS dX1_streak_111
  · have hf := bq_in ht_ hf
    obtain ⟨rfl, rfl⟩ := bq_p2 hf
    exact bq_prop C hex ht_ (by decide) (by decide)
set_option maxHeartbeats 4000000 in
theorem met_bl_patch {l : Launch} {D : va_G} {am : bqAm} {X vE sE : Nat → Nat} {d : Nat → ClassId} {ba ca ia ka na ta : Nat → Nat} {dy fa : Option Nat} {F : Nat} {β : bqS} {σ : bqS} {κ : bqS} {r : Int32} {tg : Nat} {x1 : Int32} {x2 : Int32} (hok : bq_Ok am) (hamb : bq_Amb am X vE sE) (hst : l.stackTraces = false) (hf : bl_patch F β σ κ x1 x2 = some (tg, r)) : bq_X l yX1_patch cX1_patch 3 (some .int) 8 131 2 12 D bqCl (bqTy d) am [.ref (ba 0), .int x1, .int x2] (List.flatten ([bbB d ba ca na ta ka ia β, stB d na σ, coB d ca dy fa κ] : List va_W)) tg (some (.int r)) (List.flatten ([bbB d ba ca na ta ka ia β, stB d na σ, coB d ca dy fa κ] : List va_W)) := by
  unfold bl_patch at hf
  refine bq_ofX hok (by decide +kernel) (Nat.le_of_ble_eq_true rfl) ?_
  intro p e s m below meth c A ls C hr hex hP hD hS hl
  have C0 := C
  obtain ⟨hx, hb, hown, hts, hml, hlocks, hA, hK, hm, hRf, hRl, hok⟩ := C
  have C := C0
  have hkc := Nat.zero_le 2
  have hks := Nat.zero_le 12
  have hl : lv_has ls 3 [(0, .ref (ba 0)), (1, .int x1), (2, .int x2)] := hl
  refine lv_aload_n hx hb dX1_patch_0 rfl (lv_at hl 0 rfl) ?_
  refine lv_iload_n hx hb dX1_patch_1 rfl (lv_at hl 1 rfl) ?_
  obtain ⟨t1, hg, hf⟩ := bq_b1s hf
  refine bq_cVX (bs := [bbB d ba ca na ta ka ia β, stB d na σ, coB d ca dy fa κ]) (bc := [bbB d ba ca na ta ka ia β, coB d ca dy fa κ]) (br := [stB d na σ]) (bc' := [bbB d ba ca na ta ka ia β, coB d ca dy fa κ]) (bs' := [bbB d ba ca na ta ka ia β, stB d na σ, coB d ca dy fa κ]) (As := [.int x1]) (rest := []) (o := none) C (Nat.le_of_ble_eq_true rfl) (Nat.le_of_ble_eq_true rfl) (met_bl_cellAt hok hamb hst hg) (bq_pm [0, 2, 1] rfl rfl rfl) (bq_pm [0, 2, 1] rfl rfl rfl) (lw_V q1423 q1425 qs35 q113 q1426) (hd_X1_cellAt) (Nat.le_of_ble_eq_true rfl) (Nat.le_of_ble_eq_true rfl) (va_recv hK hP (ci := 1) (q0 := 0) rfl rfl) rfl hl.1 rfl (Nat.le_of_ble_eq_true rfl) dX1_patch_2 hP hD hS (fun ht_ H locs hP hD hS => ?_) (fun ht_ => ?_)
  · have hf := bq_ip ht_ hf
    have hkc : 1 ≤ 2 := by decide
    have hks : 6 ≤ 12 := by decide
    refine lv_iload_n hx hb dX1_patch_5 rfl (lv_at hl 2 rfl) ?_
    refine lv_iconst (v := (0 : Int32)) hx hb dX1_patch_6 (by decide) ?_
    refine lv_bipush (v := (99 : Int32)) hx hb dX1_patch_7 (by decide) ?_
    obtain ⟨v2, hg, hf⟩ := bq_b1s hf
    refine bq_cS (bs := [bbB d ba ca na ta ka ia β, stB d na σ, coB d ca dy fa κ]) (bc := []) (br := [bbB d ba ca na ta ka ia β, stB d na σ, coB d ca dy fa κ]) (bc' := []) (bs' := [bbB d ba ca na ta ka ia β, stB d na σ, coB d ca dy fa κ]) (As := [.int x2, .int (0 : Int32), .int (99 : Int32)]) (rest := []) (o := (some (.int v2))) C hkc hks (met_bl_within hok hg) (bq_pm [0, 1, 2] rfl rfl rfl) (bq_pm [0, 1, 2] rfl rfl rfl) (lw_S q814 q815 q113 q816) (hd_X1_within) (Nat.le_of_ble_eq_true rfl) (Nat.le_of_ble_eq_true rfl) rfl hl.1 rfl (Nat.le_of_ble_eq_true rfl) dX1_patch_9 hP hD hS (fun H locs hP hD hS => ?_)
    obtain ⟨t3, hg, hf⟩ := bq_b1s hf
    refine bq_cSX (bs := [bbB d ba ca na ta ka ia β, stB d na σ, coB d ca dy fa κ]) (bc := []) (br := [bbB d ba ca na ta ka ia β, stB d na σ, coB d ca dy fa κ]) (bc' := []) (bs' := [bbB d ba ca na ta ka ia β, stB d na σ, coB d ca dy fa κ]) (As := [.int v2]) (rest := []) (o := none) C (Nat.le_of_ble_eq_true rfl) (Nat.le_of_ble_eq_true rfl) (met_bl_right hok hamb hst hg) (bq_pm [0, 1, 2] rfl rfl rfl) (bq_pm [0, 1, 2] rfl rfl rfl) (lw_S q1021 q1022 q113 q1023) (hd_X1_right) (Nat.le_of_ble_eq_true rfl) (Nat.le_of_ble_eq_true rfl) rfl hl.1 rfl (Nat.le_of_ble_eq_true rfl) dX1_patch_12 hP hD hS (fun ht_ H locs hP hD hS => ?_) (fun ht_ => ?_)
    · have hf := bq_ip ht_ hf
      have hkc : 2 ≤ 2 := by decide
      have hks : 12 ≤ 12 := by decide
      refine lv_aload_n hx hb dX1_patch_15 rfl (lv_at hl 0 rfl) ?_
      refine lv_iload_n hx hb dX1_patch_16 rfl (lv_at hl 1 rfl) ?_
      refine lv_iload_n hx hb dX1_patch_17 rfl (lv_at hl 2 rfl) ?_
      obtain ⟨v4, hg, hf⟩ := bq_b1s hf
      refine bq_cV (bs := [bbB d ba ca na ta ka ia β, stB d na σ, coB d ca dy fa κ]) (bc := [bbB d ba ca na ta ka ia β, stB d na σ, coB d ca dy fa κ]) (br := []) (bc' := [bbB d ba ca na ta ka ia β, stB d na σ, coB d ca dy fa κ]) (bs' := [bbB d ba ca na ta ka ia β, stB d na σ, coB d ca dy fa κ]) (As := [.int x1, .int x2]) (rest := []) (o := (some (.int v4))) C hkc hks (met_bl_patchOf hok hamb hg) (bq_pm [0, 1, 2] rfl rfl rfl) (bq_pm [0, 1, 2] rfl rfl rfl) (lw_V q1432 q1434 qs37 q113 q1435) (hd_X1_patchOf) (Nat.le_of_ble_eq_true rfl) (Nat.le_of_ble_eq_true rfl) (va_recv hK hP (ci := 1) (q0 := 0) rfl rfl) rfl hl.1 rfl (Nat.le_of_ble_eq_true rfl) dX1_patch_18 hP hD hS (fun H locs hP hD hS => ?_)
      obtain ⟨rfl, rfl⟩ := bq_p2 hf
      exact bq_iretX C hr (by decide) (by decide) hP hD hS dX1_patch_21
    · have hf := bq_in ht_ hf
      obtain ⟨rfl, rfl⟩ := bq_p2 hf
      exact bq_prop C hex ht_ (by decide) (by decide)
  · have hf := bq_in ht_ hf
    obtain ⟨rfl, rfl⟩ := bq_p2 hf
    exact bq_prop C hex ht_ (by decide) (by decide)
set_option maxHeartbeats 4000000 in
theorem wk_bl_patches_L21 {p : Program} {e : Env} {R : Room} {s : State} {m : MethodId} {args : Array Value} {below : List Frame} {meth : Method} {c : Code} {A : Nat → Prop} {kc ks : Nat} {Q : State → Prop} {l : Launch} {D : va_G} {am : bqAm} {X vE sE : Nat → Nat} {d : Nat → ClassId} {ba ca ia ka na ta : Nat → Nat} {dy fa : Option Nat} {F : Nat} (C : bq_C p R s m args meth c A D bqCl (bqTy d) am cX1_patches 4 RX1 7 110) (hkc : kc ≤ R.cells) (hks : ks ≤ R.slots) (hamb : bq_Amb am X vE sE) (hst : l.stackTraces = false) {β : bqS} {σ : bqS} {κ : bqS} :
    ∀ (k : Nat) (x1 : Int32) (x2 : Int32) (x3 : Int32) (y2 : Int32) (H : Heap) (locs : List Loc), bl_patches_L21 F β σ κ k x1 x2 x3 = some y2 → va_P D bqCl (List.flatten ([bbB d ba ca na ta ka ia β, stB d na σ, coB d ca dy fa κ] : List va_W)) H → va_D A (List.flatten ([bbB d ba ca na ta ka ia β, stB d na σ, coB d ca dy fa κ] : List va_W)) → va_S A s.heap H locs → ∀ ls : Array Slot, lv_has ls 4 [(0, .ref (ba 0)), (1, .int x1), (2, .int x2), (3, .int x3)] →
      (∀ (H : Heap) (locs : List Loc), va_P D bqCl (List.flatten ([bbB d ba ca na ta ka ia β, stB d na σ, coB d ca dy fa κ] : List va_W)) H → va_D A (List.flatten ([bbB d ba ca na ta ka ia β, stB d na σ, coB d ca dy fa κ] : List va_W)) → va_S A s.heap H locs → ∀ ls : Array Slot, lv_has ls 4 [(2, .int y2)] → W p l e R s m args below meth c H locs kc ks Q (F0 m 45 ls [])) →
      W p l e R s m args below meth c H locs kc ks Q (F0 m 21 ls []) := by
  have C0 := C
  obtain ⟨hx, hb, hown, hts, hml, hlocks, hA, hK, hm, hRf, hRl, hok⟩ := C
  have C := C0
  intro k
  induction k with
  | zero => intro x1 x2 x3 y2 H locs hf
            cases hf
  | succ k ih =>
    intro x1 x2 x3 y2 H locs hf hP hD hS ls hl hk0
    rw [bl_patches_L21] at hf
    refine lv_iload_n hx hb dX1_patches_21 rfl (lv_at hl 3 rfl) ?_
    refine lv_if_eq (tgt := 45) hx hb dX1_patches_22 (by decide) (fun c5 => ?_) (fun c5 => ?_)
    · have hf := bq_ip c5 hf
      obtain rfl := Option.some.inj hf
      exact hk0 _ _ hP hD hS ls (lv_sub hl [2] rfl)
    · have hf := bq_in c5 hf
      refine lv_iload_n hx hb dX1_patches_25 rfl (lv_at hl 3 rfl) ?_
      refine lv_aload_n hx hb dX1_patches_26 rfl (lv_at hl 0 rfl) ?_
      refine lv_iload_n hx hb dX1_patches_27 rfl (lv_at hl 3 rfl) ?_
      obtain ⟨v6, hg, hf⟩ := bq_b1s hf
      refine bq_cS (bs := [bbB d ba ca na ta ka ia β, stB d na σ, coB d ca dy fa κ]) (bc := []) (br := [bbB d ba ca na ta ka ia β, stB d na σ, coB d ca dy fa κ]) (bc' := []) (bs' := [bbB d ba ca na ta ka ia β, stB d na σ, coB d ca dy fa κ]) (As := [.int x3]) (rest := [.ref (ba 0), .int x3]) (o := (some (.int v6))) C hkc hks (met_jd_ntz hok hg) (bq_pm [0, 1, 2] rfl rfl rfl) (bq_pm [0, 1, 2] rfl rfl rfl) (lw_S q1532 q1533 q133 q1534) (hd_J16_numberOfTrailingZeros) (Nat.le_of_ble_eq_true rfl) (Nat.le_of_ble_eq_true rfl) rfl hl.1 rfl (Nat.le_of_ble_eq_true rfl) dX1_patches_28 hP hD hS (fun H locs hP hD hS => ?_)
      refine lv_iload_n hx hb dX1_patches_31 rfl (lv_at hl 1 rfl) ?_
      obtain ⟨v7, hg, hf⟩ := bq_b1s hf
      refine bq_cV (bs := [bbB d ba ca na ta ka ia β, stB d na σ, coB d ca dy fa κ]) (bc := [bbB d ba ca na ta ka ia β, stB d na σ, coB d ca dy fa κ]) (br := []) (bc' := [bbB d ba ca na ta ka ia β, stB d na σ, coB d ca dy fa κ]) (bs' := [bbB d ba ca na ta ka ia β, stB d na σ, coB d ca dy fa κ]) (As := [.int v6, .int x1]) (rest := [.int x3]) (o := (some (.int v7))) C hkc hks (met_bl_patchOf hok hamb hg) (bq_pm [0, 1, 2] rfl rfl rfl) (bq_pm [0, 1, 2] rfl rfl rfl) (lw_V q1432 q1434 qs37 q113 q1435) (hd_X1_patchOf) (Nat.le_of_ble_eq_true rfl) (Nat.le_of_ble_eq_true rfl) (va_recv hK hP (ci := 1) (q0 := 0) rfl rfl) rfl hl.1 rfl (Nat.le_of_ble_eq_true rfl) dX1_patches_32 hP hD hS (fun H locs hP hD hS => ?_)
      refine lv_iconst (v := (-1 : Int32)) hx hb dX1_patches_35 (by decide) ?_
      refine lv_ixor hx hb dX1_patches_36 ?_
      refine lv_iand hx hb dX1_patches_37 ?_
      obtain ⟨v8, ev8, hf⟩ := bq_lts hf
      refine bq_tope ev8 ?_
      refine lv_istore_n (lv' := [(3, .int v8), (0, .ref (ba 0)), (1, .int x1), (2, .int x2)]) hx hb dX1_patches_38 rfl hl (by decide) rfl (fun ls hl => ?_)
      obtain ⟨v9, ev9, hf⟩ := bq_lts hf
      refine lv_iinc (v := v9) (lv' := [(2, .int v9), (3, .int v8), (0, .ref (ba 0)), (1, .int x1)]) hx hb dX1_patches_39 hl (k := 3) rfl (bq_inc (by decide) ev9) (by decide) rfl (fun ls hl => ?_)
      refine lv_goto (tgt := 21) hx hb dX1_patches_42 (by decide) ?_
      exact ih _ _ _ _ _ _ hf hP hD hS ls (lv_sub hl [2, 3, 0, 1] rfl) hk0
set_option maxHeartbeats 4000000 in
theorem met_bl_patches {l : Launch} {D : va_G} {am : bqAm} {X vE sE : Nat → Nat} {d : Nat → ClassId} {ba ca ia ka na ta : Nat → Nat} {dy fa : Option Nat} {F : Nat} {β : bqS} {σ : bqS} {κ : bqS} {r : Int32} {tg : Nat} {x1 : Int32} (hok : bq_Ok am) (hamb : bq_Amb am X vE sE) (hst : l.stackTraces = false) (hf : bl_patches F β σ κ x1 = some (tg, r)) : bq_X l yX1_patches cX1_patches 4 (some .int) 7 110 1 6 D bqCl (bqTy d) am [.ref (ba 0), .int x1] (List.flatten ([bbB d ba ca na ta ka ia β, stB d na σ, coB d ca dy fa κ] : List va_W)) tg (some (.int r)) (List.flatten ([bbB d ba ca na ta ka ia β, stB d na σ, coB d ca dy fa κ] : List va_W)) := by
  unfold bl_patches at hf
  refine bq_ofX hok (by decide +kernel) (Nat.le_of_ble_eq_true rfl) ?_
  intro p e s m below meth c A ls C hr hex hP hD hS hl
  have C0 := C
  obtain ⟨hx, hb, hown, hts, hml, hlocks, hA, hK, hm, hRf, hRl, hok⟩ := C
  have C := C0
  have hkc := Nat.zero_le 1
  have hks := Nat.zero_le 6
  have hl : lv_has ls 4 [(0, .ref (ba 0)), (1, .int x1)] := hl
  refine lv_iload_n hx hb dX1_patches_0 rfl (lv_at hl 1 rfl) ?_
  refine lv_iconst (v := (0 : Int32)) hx hb dX1_patches_1 (by decide) ?_
  refine lv_bipush (v := (99 : Int32)) hx hb dX1_patches_2 (by decide) ?_
  obtain ⟨v1, hg, hf⟩ := bq_b1s hf
  refine bq_cS (bs := [bbB d ba ca na ta ka ia β, stB d na σ, coB d ca dy fa κ]) (bc := []) (br := [bbB d ba ca na ta ka ia β, stB d na σ, coB d ca dy fa κ]) (bc' := []) (bs' := [bbB d ba ca na ta ka ia β, stB d na σ, coB d ca dy fa κ]) (As := [.int x1, .int (0 : Int32), .int (99 : Int32)]) (rest := []) (o := (some (.int v1))) C hkc hks (met_bl_within hok hg) (bq_pm [0, 1, 2] rfl rfl rfl) (bq_pm [0, 1, 2] rfl rfl rfl) (lw_S q814 q815 q113 q816) (hd_X1_within) (Nat.le_of_ble_eq_true rfl) (Nat.le_of_ble_eq_true rfl) rfl hl.1 rfl (Nat.le_of_ble_eq_true rfl) dX1_patches_4 hP hD hS (fun H locs hP hD hS => ?_)
  obtain ⟨t2, hg, hf⟩ := bq_b1s hf
  refine bq_cSX (bs := [bbB d ba ca na ta ka ia β, stB d na σ, coB d ca dy fa κ]) (bc := []) (br := [bbB d ba ca na ta ka ia β, stB d na σ, coB d ca dy fa κ]) (bc' := []) (bs' := [bbB d ba ca na ta ka ia β, stB d na σ, coB d ca dy fa κ]) (As := [.int v1]) (rest := []) (o := none) C (Nat.le_of_ble_eq_true rfl) (Nat.le_of_ble_eq_true rfl) (met_bl_right hok hamb hst hg) (bq_pm [0, 1, 2] rfl rfl rfl) (bq_pm [0, 1, 2] rfl rfl rfl) (lw_S q1021 q1022 q113 q1023) (hd_X1_right) (Nat.le_of_ble_eq_true rfl) (Nat.le_of_ble_eq_true rfl) rfl hl.1 rfl (Nat.le_of_ble_eq_true rfl) dX1_patches_7 hP hD hS (fun ht_ H locs hP hD hS => ?_) (fun ht_ => ?_)
  · have hf := bq_ip ht_ hf
    have hkc : 1 ≤ 1 := by decide
    have hks : 6 ≤ 6 := by decide
    refine lv_iconst (v := (0 : Int32)) hx hb dX1_patches_10 (by decide) ?_
    refine lv_istore_n (lv' := [(2, .int (0 : Int32)), (0, .ref (ba 0)), (1, .int x1)]) hx hb dX1_patches_11 rfl hl (by decide) rfl (fun ls hl => ?_)
    refine lv_iconst (v := (1 : Int32)) hx hb dX1_patches_12 (by decide) ?_
    refine lv_aload_n hx hb dX1_patches_13 rfl (lv_at hl 1 rfl) ?_
    obtain ⟨v3, hg, hf⟩ := bq_b1s hf
    refine bq_cV (bs := [bbB d ba ca na ta ka ia β, stB d na σ, coB d ca dy fa κ]) (bc := [bbB d ba ca na ta ka ia β, coB d ca dy fa κ]) (br := [stB d na σ]) (bc' := [bbB d ba ca na ta ka ia β, coB d ca dy fa κ]) (bs' := [bbB d ba ca na ta ka ia β, stB d na σ, coB d ca dy fa κ]) (As := []) (rest := [.int (1 : Int32)]) (o := (some (.int v3))) C hkc hks (met_bl_cells hok hamb hg) (bq_pm [0, 2, 1] rfl rfl rfl) (bq_pm [0, 2, 1] rfl rfl rfl) (lw_V q990 q992 qs13 q113 q993) (hd_X1_cells) (Nat.le_of_ble_eq_true rfl) (Nat.le_of_ble_eq_true rfl) (va_recv hK hP (ci := 1) (q0 := 0) rfl rfl) rfl hl.1 rfl (Nat.le_of_ble_eq_true rfl) dX1_patches_14 hP hD hS (fun H locs hP hD hS => ?_)
    refine lv_ishl hx hb dX1_patches_17 ?_
    refine lv_iconst (v := (1 : Int32)) hx hb dX1_patches_18 (by decide) ?_
    refine lv_isub hx hb dX1_patches_19 ?_
    obtain ⟨v4, ev4, hf⟩ := bq_lts hf
    refine bq_tope ev4 ?_
    refine lv_istore_n (lv' := [(3, .int v4), (2, .int (0 : Int32)), (0, .ref (ba 0)), (1, .int x1)]) hx hb dX1_patches_20 rfl hl (by decide) rfl (fun ls hl => ?_)
    obtain ⟨v10, hg, hf⟩ := bq_b1s hf
    refine wk_bl_patches_L21 C hkc hks hamb hst _ _ _ _ _ _ _ hg hP hD hS ls (lv_sub hl [2, 3, 1, 0] rfl) ?_
    · intro H locs hP hD hS ls hl
      refine lv_iload_n hx hb dX1_patches_45 rfl (lv_at hl 0 rfl) ?_
      obtain ⟨rfl, rfl⟩ := bq_p2 hf
      exact bq_iretX C hr (by decide) (by decide) hP hD hS dX1_patches_46
  · have hf := bq_in ht_ hf
    obtain ⟨rfl, rfl⟩ := bq_p2 hf
    exact bq_prop C hex ht_ (by decide) (by decide)
set_option maxHeartbeats 4000000 in
theorem wk_bl_way_L54 {p : Program} {e : Env} {R : Room} {s : State} {m : MethodId} {args : Array Value} {below : List Frame} {meth : Method} {c : Code} {A : Nat → Prop} {kc ks : Nat} {Q : State → Prop} {l : Launch} {D : va_G} {am : bqAm} {X vE sE : Nat → Nat} {d : Nat → ClassId} {ba ca ia ka na ta : Nat → Nat} {dy fa : Option Nat} {F : Nat} (C : bq_C p R s m args meth c A D bqCl (bqTy d) am cX1_way 7 RX1 8 131) (hkc : kc ≤ R.cells) (hks : ks ≤ R.slots) (hamb : bq_Amb am X vE sE) (hst : l.stackTraces = false) {β : bqS} {σ : bqS} {κ : bqS} {x2 : Int32} {x4 : Int32} :
    ∀ (k : Nat) (x3 : Int32) (x5 : Int32) (x6 : Int32) (y5 : Int32) (H : Heap) (locs : List Loc), bl_way_L54 F β σ κ k x3 x5 x6 = some y5 → va_P D bqCl (List.flatten ([bbB d ba ca na ta ka ia β, stB d na σ, coB d ca dy fa κ] : List va_W)) H → va_D A (List.flatten ([bbB d ba ca na ta ka ia β, stB d na σ, coB d ca dy fa κ] : List va_W)) → va_S A s.heap H locs → ∀ ls : Array Slot, lv_has ls 7 [(0, .ref (ba 0)), (2, .int x2), (3, .int x3), (4, .int x4), (5, .int x5), (6, .int x6)] →
      (∀ (H : Heap) (locs : List Loc), va_P D bqCl (List.flatten ([bbB d ba ca na ta ka ia β, stB d na σ, coB d ca dy fa κ] : List va_W)) H → va_D A (List.flatten ([bbB d ba ca na ta ka ia β, stB d na σ, coB d ca dy fa κ] : List va_W)) → va_S A s.heap H locs → ∀ ls : Array Slot, lv_has ls 7 [(0, .ref (ba 0)), (2, .int x2), (4, .int x4), (5, .int y5)] → W p l e R s m args below meth c H locs kc ks Q (F0 m 90 ls [])) →
      W p l e R s m args below meth c H locs kc ks Q (F0 m 54 ls []) := by
  have C0 := C
  obtain ⟨hx, hb, hown, hts, hml, hlocks, hA, hK, hm, hRf, hRl, hok⟩ := C
  have C := C0
  intro k
  induction k with
  | zero => intro x3 x5 x6 y5 H locs hf
            cases hf
  | succ k ih =>
    intro x3 x5 x6 y5 H locs hf hP hD hS ls hl hk0
    rw [bl_way_L54] at hf
    refine lv_iload hx hb dX1_way_54 (lv_at hl 5 rfl) ?_
    refine lv_aload_n hx hb dX1_way_56 rfl (lv_at hl 0 rfl) ?_
    obtain ⟨v7, hg, hf⟩ := bq_b1s hf
    refine bq_cV (bs := [bbB d ba ca na ta ka ia β, stB d na σ, coB d ca dy fa κ]) (bc := [bbB d ba ca na ta ka ia β, coB d ca dy fa κ]) (br := [stB d na σ]) (bc' := [bbB d ba ca na ta ka ia β, coB d ca dy fa κ]) (bs' := [bbB d ba ca na ta ka ia β, stB d na σ, coB d ca dy fa κ]) (As := []) (rest := [.int x6]) (o := (some (.int v7))) C hkc hks (met_bl_cells hok hamb hg) (bq_pm [0, 2, 1] rfl rfl rfl) (bq_pm [0, 2, 1] rfl rfl rfl) (lw_V q990 q992 qs13 q113 q993) (hd_X1_cells) (Nat.le_of_ble_eq_true rfl) (Nat.le_of_ble_eq_true rfl) (va_recv hK hP (ci := 1) (q0 := 0) rfl rfl) rfl hl.1 rfl (Nat.le_of_ble_eq_true rfl) dX1_way_57 hP hD hS (fun H locs hP hD hS => ?_)
    refine lv_icmp_ge (tgt := 90) hx hb dX1_way_60 (by decide) (fun c8 => ?_) (fun c8 => ?_)
    · have hf := bq_ip c8 hf
      obtain rfl := Option.some.inj hf
      exact hk0 _ _ hP hD hS ls (lv_sub hl [0, 1, 3, 4] rfl)
    · have hf := bq_in c8 hf
      refine lv_iload_n hx hb dX1_way_63 rfl (lv_at hl 2 rfl) ?_
      refine lv_iload hx hb dX1_way_64 (lv_at hl 5 rfl) ?_
      refine lv_ishr hx hb dX1_way_66 ?_
      refine lv_iconst (v := (1 : Int32)) hx hb dX1_way_67 (by decide) ?_
      refine lv_iand hx hb dX1_way_68 ?_
      refine lv_iconst (v := (1 : Int32)) hx hb dX1_way_69 (by decide) ?_
      refine lv_icmp_ne (tgt := 84) hx hb dX1_way_70 (by decide) (fun c9 => ?_) (fun c9 => ?_)
      · have hf := bq_in c9 hf
        obtain ⟨v10, ev10, hf⟩ := bq_lts hf
        refine lv_iinc (v := v10) (lv' := [(6, .int v10), (0, .ref (ba 0)), (2, .int x2), (3, .int x3), (4, .int x4), (5, .int x5)]) hx hb dX1_way_84 hl (k := 5) rfl (bq_inc (by decide) ev10) (by decide) rfl (fun ls hl => ?_)
        refine lv_goto (tgt := 54) hx hb dX1_way_87 (by decide) ?_
        exact ih _ _ _ _ _ _ hf hP hD hS ls (lv_sub hl [1, 2, 3, 4, 5, 0] rfl) hk0
      · have hf := bq_ip c9 hf
        refine lv_iload hx hb dX1_way_73 (lv_at hl 4 rfl) ?_
        refine lv_aload_n hx hb dX1_way_75 rfl (lv_at hl 0 rfl) ?_
        refine lv_iload hx hb dX1_way_76 (lv_at hl 5 rfl) ?_
        obtain ⟨v11, hg, hf⟩ := bq_b1s hf
        refine bq_cV (bs := [bbB d ba ca na ta ka ia β, stB d na σ, coB d ca dy fa κ]) (bc := [bbB d ba ca na ta ka ia β, coB d ca dy fa κ]) (br := [stB d na σ]) (bc' := [bbB d ba ca na ta ka ia β, coB d ca dy fa κ]) (bs' := [bbB d ba ca na ta ka ia β, stB d na σ, coB d ca dy fa κ]) (As := [.int x6]) (rest := [.int x5]) (o := (some (.int v11))) C hkc hks (met_bl_besideOf hok hamb hg) (bq_pm [0, 2, 1] rfl rfl rfl) (bq_pm [0, 2, 1] rfl rfl rfl) (lw_V q1427 q1429 qs36 q113 q1430) (hd_X1_besideOf) (Nat.le_of_ble_eq_true rfl) (Nat.le_of_ble_eq_true rfl) (va_recv hK hP (ci := 1) (q0 := 0) rfl rfl) rfl hl.1 rfl (Nat.le_of_ble_eq_true rfl) dX1_way_78 hP hD hS (fun H locs hP hD hS => ?_)
        refine lv_ior hx hb dX1_way_81 ?_
        obtain ⟨v12, ev12, hf⟩ := bq_lts hf
        refine bq_tope ev12 ?_
        refine lv_istore (lv' := [(5, .int v12), (0, .ref (ba 0)), (2, .int x2), (3, .int x3), (4, .int x4), (6, .int x6)]) hx hb dX1_way_82 hl (by decide) rfl (fun ls hl => ?_)
        obtain ⟨v13, ev13, hf⟩ := bq_lts hf
        refine lv_iinc (v := v13) (lv' := [(6, .int v13), (5, .int v12), (0, .ref (ba 0)), (2, .int x2), (3, .int x3), (4, .int x4)]) hx hb dX1_way_84 hl (k := 5) rfl (bq_inc (by decide) ev13) (by decide) rfl (fun ls hl => ?_)
        refine lv_goto (tgt := 54) hx hb dX1_way_87 (by decide) ?_
        exact ih _ _ _ _ _ _ hf hP hD hS ls (lv_sub hl [2, 3, 4, 5, 1, 0] rfl) hk0
set_option maxHeartbeats 4000000 in
theorem wk_bl_way_L27 {p : Program} {e : Env} {R : Room} {s : State} {m : MethodId} {args : Array Value} {below : List Frame} {meth : Method} {c : Code} {A : Nat → Prop} {kc ks : Nat} {Q : State → Prop} {l : Launch} {D : va_G} {am : bqAm} {X vE sE : Nat → Nat} {d : Nat → ClassId} {ba ca ia ka na ta : Nat → Nat} {dy fa : Option Nat} {F : Nat} (C : bq_C p R s m args meth c A D bqCl (bqTy d) am cX1_way 7 RX1 8 131) (hkc : kc ≤ R.cells) (hks : ks ≤ R.slots) (hamb : bq_Amb am X vE sE) (hst : l.stackTraces = false) {β : bqS} {σ : bqS} {κ : bqS} :
    ∀ (k : Nat) (x2 : Int32) (x3 : Int32) (x4 : Int32) (tg : Nat) (y4 : Int32) (H : Heap) (locs : List Loc), bl_way_L27 F β σ κ k x2 x3 x4 = some (tg, y4) → va_P D bqCl (List.flatten ([bbB d ba ca na ta ka ia β, stB d na σ, coB d ca dy fa κ] : List va_W)) H → va_D A (List.flatten ([bbB d ba ca na ta ka ia β, stB d na σ, coB d ca dy fa κ] : List va_W)) → va_S A s.heap H locs → ∀ ls : Array Slot, lv_has ls 7 [(0, .ref (ba 0)), (2, .int x2), (3, .int x3), (4, .int x4)] →
      (tg = 0 → ∀ (H : Heap) (locs : List Loc), va_P D bqCl (List.flatten ([bbB d ba ca na ta ka ia β, stB d na σ, coB d ca dy fa κ] : List va_W)) H → va_D A (List.flatten ([bbB d ba ca na ta ka ia β, stB d na σ, coB d ca dy fa κ] : List va_W)) → va_S A s.heap H locs → ∀ ls : Array Slot, lv_has ls 7 [(4, .int y4)] → W p l e R s m args below meth c H locs kc ks Q (F0 m 45 ls [])) →
      (tg = 1 → ∀ (H : Heap) (locs : List Loc), va_P D bqCl (List.flatten ([bbB d ba ca na ta ka ia β, stB d na σ, coB d ca dy fa κ] : List va_W)) H → va_D A (List.flatten ([bbB d ba ca na ta ka ia β, stB d na σ, coB d ca dy fa κ] : List va_W)) → va_S A s.heap H locs → ∀ ls : Array Slot, lv_has ls 7 [] → W p l e R s m args below meth c H locs kc ks Q (F0 m 109 ls [])) →
      W p l e R s m args below meth c H locs kc ks Q (F0 m 27 ls []) := by
  have C0 := C
  obtain ⟨hx, hb, hown, hts, hml, hlocks, hA, hK, hm, hRf, hRl, hok⟩ := C
  have C := C0
  intro k
  induction k with
  | zero => intro x2 x3 x4 tg y4 H locs hf
            cases hf
  | succ k ih =>
    intro x2 x3 x4 tg y4 H locs hf hP hD hS ls hl hk0 hk1
    rw [bl_way_L27] at hf
    refine lv_iload hx hb dX1_way_27 (lv_at hl 3 rfl) ?_
    refine lv_aload_n hx hb dX1_way_29 rfl (lv_at hl 0 rfl) ?_
    obtain ⟨v4, hg, hf⟩ := bq_b1s hf
    refine bq_cV (bs := [bbB d ba ca na ta ka ia β, stB d na σ, coB d ca dy fa κ]) (bc := [bbB d ba ca na ta ka ia β, coB d ca dy fa κ]) (br := [stB d na σ]) (bc' := [bbB d ba ca na ta ka ia β, coB d ca dy fa κ]) (bs' := [bbB d ba ca na ta ka ia β, stB d na σ, coB d ca dy fa κ]) (As := []) (rest := [.int x4]) (o := (some (.int v4))) C hkc hks (met_bl_cells hok hamb hg) (bq_pm [0, 2, 1] rfl rfl rfl) (bq_pm [0, 2, 1] rfl rfl rfl) (lw_V q990 q992 qs13 q113 q993) (hd_X1_cells) (Nat.le_of_ble_eq_true rfl) (Nat.le_of_ble_eq_true rfl) (va_recv hK hP (ci := 1) (q0 := 0) rfl rfl) rfl hl.1 rfl (Nat.le_of_ble_eq_true rfl) dX1_way_30 hP hD hS (fun H locs hP hD hS => ?_)
    refine lv_icmp_ge (tgt := 109) hx hb dX1_way_33 (by decide) (fun c5 => ?_) (fun c5 => ?_)
    · have hf := bq_ip c5 hf
      obtain ⟨rfl, rfl⟩ := bq_p2 hf
      exact hk1 rfl _ _ hP hD hS ls (lv_sub hl [] rfl)
    · have hf := bq_in c5 hf
      refine lv_iload_n hx hb dX1_way_36 rfl (lv_at hl 2 rfl) ?_
      refine lv_iload_n hx hb dX1_way_37 rfl (lv_at hl 1 rfl) ?_
      refine lv_ishr hx hb dX1_way_38 ?_
      refine lv_iconst (v := (1 : Int32)) hx hb dX1_way_39 (by decide) ?_
      refine lv_iand hx hb dX1_way_40 ?_
      refine lv_iconst (v := (1 : Int32)) hx hb dX1_way_41 (by decide) ?_
      refine lv_icmp_ne (tgt := 48) hx hb dX1_way_42 (by decide) (fun c6 => ?_) (fun c6 => ?_)
      · have hf := bq_in c6 hf
        refine lv_iload_n hx hb dX1_way_48 rfl (lv_at hl 2 rfl) ?_
        refine lv_istore (lv' := [(5, .int x3), (0, .ref (ba 0)), (2, .int x2), (3, .int x3), (4, .int x4)]) hx hb dX1_way_49 hl (by decide) rfl (fun ls hl => ?_)
        refine lv_iconst (v := (0 : Int32)) hx hb dX1_way_51 (by decide) ?_
        refine lv_istore (lv' := [(6, .int (0 : Int32)), (5, .int x3), (0, .ref (ba 0)), (2, .int x2), (3, .int x3), (4, .int x4)]) hx hb dX1_way_52 hl (by decide) rfl (fun ls hl => ?_)
        obtain ⟨v14, hg, hf⟩ := bq_b1s hf
        refine wk_bl_way_L54 C hkc hks hamb hst _ _ _ _ _ _ _ hg hP hD hS ls (lv_sub hl [2, 3, 4, 5, 1, 0] rfl) ?_
        · intro H locs hP hD hS ls hl
          refine lv_iload hx hb dX1_way_90 (lv_at hl 3 rfl) ?_
          refine lv_aload_n hx hb dX1_way_92 rfl (lv_at hl 0 rfl) ?_
          refine gX1_get (own := RX1) (fs := (bbF ba ca na ta ka ia β)) (v := .ref (na 0)) hx hb hts hown hK hP (q0 := 0) rfl 3 (Nat.le_of_ble_eq_true rfl) (hts _ q758) rfl dX1_way_93 ?_
          refine gX6_getN (own := RX1) (host := "BlueBag") (fs := (stF na σ)) (v := .int (σ 0 7)) hx hb hts hown hK hP (q0 := 6) rfl 7 (Nat.le_of_ble_eq_true rfl) (bq_nF hamb hm 13 rfl) rfl dX1_way_96 ?_
          refine lv_iconst (v := (-1 : Int32)) hx hb dX1_way_99 (by decide) ?_
          refine lv_ixor hx hb dX1_way_100 ?_
          refine lv_iand hx hb dX1_way_101 ?_
          obtain ⟨v15, ev15, hf⟩ := bq_lts hf
          refine bq_tope ev15 ?_
          refine lv_istore_n (lv' := [(3, .int v15), (0, .ref (ba 0)), (2, .int x2), (4, .int x4), (5, .int v14)]) hx hb dX1_way_102 rfl hl (by decide) rfl (fun ls hl => ?_)
          obtain ⟨v16, ev16, hf⟩ := bq_lts hf
          refine lv_iinc (v := v16) (lv' := [(4, .int v16), (3, .int v15), (0, .ref (ba 0)), (2, .int x2), (5, .int v14)]) hx hb dX1_way_103 hl (k := 3) rfl (bq_inc (by decide) ev16) (by decide) rfl (fun ls hl => ?_)
          refine lv_goto (tgt := 27) hx hb dX1_way_106 (by decide) ?_
          exact ih _ _ _ _ _ _ _ hf hP hD hS ls (lv_sub hl [2, 3, 1, 0] rfl) hk0 hk1
      · have hf := bq_ip c6 hf
        obtain ⟨rfl, rfl⟩ := bq_p2 hf
        exact hk0 rfl _ _ hP hD hS ls (lv_sub hl [3] rfl)
set_option maxHeartbeats 4000000 in
theorem met_bl_way {l : Launch} {D : va_G} {am : bqAm} {X vE sE : Nat → Nat} {d : Nat → ClassId} {ba ca ia ka na ta : Nat → Nat} {dy fa : Option Nat} {F : Nat} {β : bqS} {σ : bqS} {κ : bqS} {r : Int32} {tg : Nat} {x1 : Int32} {x2 : Int32} (hok : bq_Ok am) (hamb : bq_Amb am X vE sE) (hst : l.stackTraces = false) (hf : bl_way F β σ κ x1 x2 = some (tg, r)) : bq_X l yX1_way cX1_way 7 (some .int) 8 131 2 12 D bqCl (bqTy d) am [.ref (ba 0), .int x1, .int x2] (List.flatten ([bbB d ba ca na ta ka ia β, stB d na σ, coB d ca dy fa κ] : List va_W)) tg (some (.int r)) (List.flatten ([bbB d ba ca na ta ka ia β, stB d na σ, coB d ca dy fa κ] : List va_W)) := by
  unfold bl_way at hf
  refine bq_ofX hok (by decide +kernel) (Nat.le_of_ble_eq_true rfl) ?_
  intro p e s m below meth c A ls C hr hex hP hD hS hl
  have C0 := C
  obtain ⟨hx, hb, hown, hts, hml, hlocks, hA, hK, hm, hRf, hRl, hok⟩ := C
  have C := C0
  have hkc := Nat.zero_le 2
  have hks := Nat.zero_le 12
  have hl : lv_has ls 7 [(0, .ref (ba 0)), (1, .int x1), (2, .int x2)] := hl
  refine lv_aload_n hx hb dX1_way_0 rfl (lv_at hl 0 rfl) ?_
  refine lv_iload_n hx hb dX1_way_1 rfl (lv_at hl 1 rfl) ?_
  obtain ⟨t1, hg, hf⟩ := bq_b1s hf
  refine bq_cVX (bs := [bbB d ba ca na ta ka ia β, stB d na σ, coB d ca dy fa κ]) (bc := [bbB d ba ca na ta ka ia β, coB d ca dy fa κ]) (br := [stB d na σ]) (bc' := [bbB d ba ca na ta ka ia β, coB d ca dy fa κ]) (bs' := [bbB d ba ca na ta ka ia β, stB d na σ, coB d ca dy fa κ]) (As := [.int x1]) (rest := []) (o := none) C (Nat.le_of_ble_eq_true rfl) (Nat.le_of_ble_eq_true rfl) (met_bl_cellAt hok hamb hst hg) (bq_pm [0, 2, 1] rfl rfl rfl) (bq_pm [0, 2, 1] rfl rfl rfl) (lw_V q1423 q1425 qs35 q113 q1426) (hd_X1_cellAt) (Nat.le_of_ble_eq_true rfl) (Nat.le_of_ble_eq_true rfl) (va_recv hK hP (ci := 1) (q0 := 0) rfl rfl) rfl hl.1 rfl (Nat.le_of_ble_eq_true rfl) dX1_way_2 hP hD hS (fun ht_ H locs hP hD hS => ?_) (fun ht_ => ?_)
  · have hf := bq_ip ht_ hf
    have hkc : 1 ≤ 2 := by decide
    have hks : 6 ≤ 12 := by decide
    refine lv_aload_n hx hb dX1_way_5 rfl (lv_at hl 0 rfl) ?_
    refine lv_iload_n hx hb dX1_way_6 rfl (lv_at hl 2 rfl) ?_
    obtain ⟨t2, hg, hf⟩ := bq_b1s hf
    refine bq_cVX (bs := [bbB d ba ca na ta ka ia β, stB d na σ, coB d ca dy fa κ]) (bc := [bbB d ba ca na ta ka ia β, coB d ca dy fa κ]) (br := [stB d na σ]) (bc' := [bbB d ba ca na ta ka ia β, coB d ca dy fa κ]) (bs' := [bbB d ba ca na ta ka ia β, stB d na σ, coB d ca dy fa κ]) (As := [.int x2]) (rest := []) (o := none) C (Nat.le_of_ble_eq_true rfl) (Nat.le_of_ble_eq_true rfl) (met_bl_cellAt hok hamb hst hg) (bq_pm [0, 2, 1] rfl rfl rfl) (bq_pm [0, 2, 1] rfl rfl rfl) (lw_V q1423 q1425 qs35 q113 q1426) (hd_X1_cellAt) (Nat.le_of_ble_eq_true rfl) (Nat.le_of_ble_eq_true rfl) (va_recv hK hP (ci := 1) (q0 := 0) rfl rfl) rfl hl.1 rfl (Nat.le_of_ble_eq_true rfl) dX1_way_7 hP hD hS (fun ht_ H locs hP hD hS => ?_) (fun ht_ => ?_)
    · have hf := bq_ip ht_ hf
      have hkc : 2 ≤ 2 := by decide
      have hks : 12 ≤ 12 := by decide
      refine lv_iconst (v := (1 : Int32)) hx hb dX1_way_10 (by decide) ?_
      refine lv_iload_n hx hb dX1_way_11 rfl (lv_at hl 1 rfl) ?_
      refine lv_ishl hx hb dX1_way_12 ?_
      refine lv_aload_n hx hb dX1_way_13 rfl (lv_at hl 0 rfl) ?_
      refine gX1_get (own := RX1) (fs := (bbF ba ca na ta ka ia β)) (v := .ref (na 0)) hx hb hts hown hK hP (q0 := 0) rfl 3 (Nat.le_of_ble_eq_true rfl) (hts _ q758) rfl dX1_way_14 ?_
      refine gX6_getN (own := RX1) (host := "BlueBag") (fs := (stF na σ)) (v := .int (σ 0 7)) hx hb hts hown hK hP (q0 := 6) rfl 7 (Nat.le_of_ble_eq_true rfl) (bq_nF hamb hm 13 rfl) rfl dX1_way_17 ?_
      refine lv_iconst (v := (-1 : Int32)) hx hb dX1_way_20 (by decide) ?_
      refine lv_ixor hx hb dX1_way_21 ?_
      refine lv_iand hx hb dX1_way_22 ?_
      obtain ⟨v3, ev3, hf⟩ := bq_lts hf
      refine bq_tope ev3 ?_
      refine lv_istore_n (lv' := [(3, .int v3), (0, .ref (ba 0)), (1, .int x1), (2, .int x2)]) hx hb dX1_way_23 rfl hl (by decide) rfl (fun ls hl => ?_)
      refine lv_iconst (v := (0 : Int32)) hx hb dX1_way_24 (by decide) ?_
      refine lv_istore (lv' := [(4, .int (0 : Int32)), (3, .int v3), (0, .ref (ba 0)), (1, .int x1), (2, .int x2)]) hx hb dX1_way_25 hl (by decide) rfl (fun ls hl => ?_)
      obtain ⟨t17, v18, hg, hf⟩ := bq_b2s hf
      refine wk_bl_way_L27 C hkc hks hamb hst _ _ _ _ _ _ _ _ hg hP hD hS ls (lv_sub hl [2, 4, 1, 0] rfl) ?_ ?_
      · intro ht_
        intro H locs hP hD hS ls hl
        have hf := bq_ip ht_ hf
        refine lv_iload hx hb dX1_way_45 (lv_at hl 0 rfl) ?_
        obtain ⟨rfl, rfl⟩ := bq_p2 hf
        exact bq_iretX C hr (by decide) (by decide) hP hD hS dX1_way_47
      · intro ht_
        intro H locs hP hD hS ls hl
        have hf := bq_in (by rw [ht_]; decide) hf
        refine lv_iconst (v := (-1 : Int32)) hx hb dX1_way_109 (by decide) ?_
        obtain ⟨rfl, rfl⟩ := bq_p2 hf
        exact bq_iretX C hr (by decide) (by decide) hP hD hS dX1_way_110
    · have hf := bq_in ht_ hf
      obtain ⟨rfl, rfl⟩ := bq_p2 hf
      exact bq_prop C hex ht_ (by decide) (by decide)
  · have hf := bq_in ht_ hf
    obtain ⟨rfl, rfl⟩ := bq_p2 hf
    exact bq_prop C hex ht_ (by decide) (by decide)
set_option maxHeartbeats 4000000 in
theorem met_bl_unevenNext {l : Launch} {D : va_G} {am : bqAm} {X vE sE : Nat → Nat} {d : Nat → ClassId} {ba ca ia ka na ta : Nat → Nat} {dy fa : Option Nat} {L : Nat} {mc : Int32} {P : va_W} {F : Nat} {E : bqE} {β : bqS} {σ : bqS} {τ : bqS} {ν : bqS} {κ : bqS} {τ' : bqS} {ν' : bqS} {r : Int32} (hok : bq_Ok am) (hamb : bq_Amb am X vE sE) (hE : bq_E P vE dy fa E) (hby : bq_By l D am d ca vE P 400) (hL : E.1 ≤ L ∧ L < 2147483648) (hf : bl_unevenNext F E β σ τ ν κ = some (r, τ', ν')) : bq_M l yX1_unevenNext cX1_unevenNext 1 (some .int) 804 24130 D bqCl (bqTy d) am [.ref (ba 0)] (List.flatten ([bbB d ba ca na ta ka ia β, stB d na σ, stB d ta τ, viB d ca ν, coB d ca dy fa κ, lsB d ca L mc E.1, giB ca E.1 κ, P] : List va_W)) (some (.int r)) (List.flatten ([bbB d ba ca na ta ka ia β, stB d na σ, stB d ta τ', viB d ca ν', coB d ca dy fa κ, lsB d ca L mc E.1, giB ca E.1 κ, P] : List va_W)) := by
  unfold bl_unevenNext at hf
  refine bq_of hok (by decide +kernel) (Nat.le_of_ble_eq_true rfl) ?_
  intro p e s m below meth c A ls C hr hP hD hS hl
  have C0 := C
  obtain ⟨hx, hb, hown, hts, hml, hlocks, hA, hK, hm, hRf, hRl, hok⟩ := C
  have C := C0
  have hkc := Nat.zero_le 0
  have hks := Nat.zero_le 0
  have hl : lv_has ls 1 [(0, .ref (ba 0))] := hl
  refine lv_aload_n hx hb dX1_unevenNext_0 rfl (lv_at hl 0 rfl) ?_
  refine gX1_get (own := RX1) (fs := (bbF ba ca na ta ka ia β)) (v := .ref (ta 0)) hx hb hts hown hK hP (q0 := 0) rfl 4 (Nat.le_of_ble_eq_true rfl) (hts _ q759) rfl dX1_unevenNext_1 ?_
  refine lv_aload_n hx hb dX1_unevenNext_4 rfl (lv_at hl 0 rfl) ?_
  refine gX1_get (own := RX1) (fs := (bbF ba ca na ta ka ia β)) (v := .ref (ca 0)) hx hb hts hown hK hP (q0 := 0) rfl 0 (Nat.le_of_ble_eq_true rfl) (hts _ q755) rfl dX1_unevenNext_5 ?_
  obtain ⟨τ1, ν2, hg, hf⟩ := bq_b2s hf
  refine bq_cV (bs := [bbB d ba ca na ta ka ia β, stB d na σ, stB d ta τ, viB d ca ν, coB d ca dy fa κ, lsB d ca L mc E.1, giB ca E.1 κ, P]) (bc := [stB d ta τ, viB d ca ν, coB d ca dy fa κ, lsB d ca L mc E.1, giB ca E.1 κ, P]) (br := [bbB d ba ca na ta ka ia β, stB d na σ]) (bc' := [stB d ta τ1, viB d ca ν2, coB d ca dy fa κ, lsB d ca L mc E.1, giB ca E.1 κ, P]) (bs' := [bbB d ba ca na ta ka ia β, stB d na σ, stB d ta τ1, viB d ca ν2, coB d ca dy fa κ, lsB d ca L mc E.1, giB ca E.1 κ, P]) (As := [.ref (ca 0)]) (rest := []) (o := none) C hkc hks (met_st_goes hok hamb hE hby hL hg) (bq_pm [2, 3, 4, 5, 6, 7, 0, 1] rfl rfl rfl) (bq_pm [6, 7, 0, 1, 2, 3, 4, 5] rfl rfl rfl) (lw_V q844 q845 q846 q138 q847) (hd_X6_goes) (Nat.le_of_ble_eq_true rfl) (Nat.le_of_ble_eq_true rfl) (va_recv hK hP (ci := 5) (q0 := 11) rfl rfl) rfl hl.1 rfl (Nat.le_of_ble_eq_true rfl) dX1_unevenNext_8 hP hD hS (fun H locs hP hD hS => ?_)
  refine lv_aload_n hx hb dX1_unevenNext_11 rfl (lv_at hl 0 rfl) ?_
  refine gX1_get (own := RX1) (fs := (bbF ba ca na ta ka ia β)) (v := .ref (ta 0)) hx hb hts hown hK hP (q0 := 0) rfl 4 (Nat.le_of_ble_eq_true rfl) (hts _ q759) rfl dX1_unevenNext_12 ?_
  refine lv_aload_n hx hb dX1_unevenNext_15 rfl (lv_at hl 0 rfl) ?_
  refine gX1_get (own := RX1) (fs := (bbF ba ca na ta ka ia β)) (v := .ref (ca 0)) hx hb hts hown hK hP (q0 := 0) rfl 0 (Nat.le_of_ble_eq_true rfl) (hts _ q755) rfl dX1_unevenNext_16 ?_
  obtain ⟨v3, hg, hf⟩ := bq_b1s hf
  refine bq_cV (bs := [bbB d ba ca na ta ka ia β, stB d na σ, stB d ta τ1, viB d ca ν2, coB d ca dy fa κ, lsB d ca L mc E.1, giB ca E.1 κ, P]) (bc := [stB d ta τ1, coB d ca dy fa κ]) (br := [bbB d ba ca na ta ka ia β, stB d na σ, viB d ca ν2, lsB d ca L mc E.1, giB ca E.1 κ, P]) (bc' := [stB d ta τ1, coB d ca dy fa κ]) (bs' := [bbB d ba ca na ta ka ia β, stB d na σ, stB d ta τ1, viB d ca ν2, coB d ca dy fa κ, lsB d ca L mc E.1, giB ca E.1 κ, P]) (As := [.ref (ca 0)]) (rest := []) (o := (some (.int v3))) C hkc hks (met_st_uneven hok hamb hg) (bq_pm [2, 4, 0, 1, 3, 5, 6, 7] rfl rfl rfl) (bq_pm [2, 3, 0, 4, 1, 5, 6, 7] rfl rfl rfl) (lw_V q971 q972 q973 q138 q974) (hd_X6_uneven) (Nat.le_of_ble_eq_true rfl) (Nat.le_of_ble_eq_true rfl) (va_recv hK hP (ci := 5) (q0 := 11) rfl rfl) rfl hl.1 rfl (Nat.le_of_ble_eq_true rfl) dX1_unevenNext_19 hP hD hS (fun H locs hP hD hS => ?_)
  obtain ⟨rfl, rfl, rfl⟩ := bq_p3 hf
  exact bq_iret C hr hP hD hS dX1_unevenNext_22
set_option maxHeartbeats 4000000 in
theorem wk_bl_toRest_L14 {p : Program} {e : Env} {R : Room} {s : State} {m : MethodId} {args : Array Value} {below : List Frame} {meth : Method} {c : Code} {A : Nat → Prop} {kc ks : Nat} {Q : State → Prop} {l : Launch} {D : va_G} {am : bqAm} {X vE sE : Nat → Nat} {d : Nat → ClassId} {ba ca ia ka na ta : Nat → Nat} {dy fa : Option Nat} {L : Nat} {mc : Int32} {P : va_W} {F : Nat} {E : bqE} (C : bq_C p R s m args meth c A D bqCl (bqTy d) am cX1_toRest 5 RX1 805 24152) (hkc : kc ≤ R.cells) (hks : ks ≤ R.slots) (hamb : bq_Amb am X vE sE) (hE : bq_E P vE dy fa E) (hby : bq_By l D am d ca vE P 400) (hL : E.1 ≤ L ∧ L < 2147483648) {β : bqS} {σ : bqS} {κ : bqS} :
    ∀ (k : Nat) (x1 : Int32) (x2 : Int32) (x3 : Int32) (τ : bqS) (ν : bqS) (y2 : Int32) (τ' : bqS) (ν' : bqS) (H : Heap) (locs : List Loc), bl_toRest_L14 F E β σ κ k x1 x2 x3 τ ν = some (y2, τ', ν') → va_P D bqCl (List.flatten ([bbB d ba ca na ta ka ia β, stB d na σ, stB d ta τ, viB d ca ν, coB d ca dy fa κ, lsB d ca L mc E.1, giB ca E.1 κ, P] : List va_W)) H → va_D A (List.flatten ([bbB d ba ca na ta ka ia β, stB d na σ, stB d ta τ, viB d ca ν, coB d ca dy fa κ, lsB d ca L mc E.1, giB ca E.1 κ, P] : List va_W)) → va_S A s.heap H locs → ∀ ls : Array Slot, lv_has ls 5 [(0, .ref (ba 0)), (1, .int x1), (2, .int x2), (3, .int x3)] →
      (∀ (H : Heap) (locs : List Loc), va_P D bqCl (List.flatten ([bbB d ba ca na ta ka ia β, stB d na σ, stB d ta τ', viB d ca ν', coB d ca dy fa κ, lsB d ca L mc E.1, giB ca E.1 κ, P] : List va_W)) H → va_D A (List.flatten ([bbB d ba ca na ta ka ia β, stB d na σ, stB d ta τ', viB d ca ν', coB d ca dy fa κ, lsB d ca L mc E.1, giB ca E.1 κ, P] : List va_W)) → va_S A s.heap H locs → ∀ ls : Array Slot, lv_has ls 5 [(2, .int y2)] → W p l e R s m args below meth c H locs kc ks Q (F0 m 82 ls [])) →
      W p l e R s m args below meth c H locs kc ks Q (F0 m 14 ls []) := by
  have C0 := C
  obtain ⟨hx, hb, hown, hts, hml, hlocks, hA, hK, hm, hRf, hRl, hok⟩ := C
  have C := C0
  intro k
  induction k with
  | zero => intro x1 x2 x3 τ ν y2 τ' ν' H locs hf
            cases hf
  | succ k ih =>
    intro x1 x2 x3 τ ν y2 τ' ν' H locs hf hP hD hS ls hl hk0
    rw [bl_toRest_L14] at hf
    refine lv_iload_n hx hb dX1_toRest_14 rfl (lv_at hl 3 rfl) ?_
    refine lv_aload_n hx hb dX1_toRest_15 rfl (lv_at hl 0 rfl) ?_
    obtain ⟨v6, hg, hf⟩ := bq_b1s hf
    refine bq_cV (bs := [bbB d ba ca na ta ka ia β, stB d na σ, stB d ta τ, viB d ca ν, coB d ca dy fa κ, lsB d ca L mc E.1, giB ca E.1 κ, P]) (bc := [bbB d ba ca na ta ka ia β, coB d ca dy fa κ, lsB d ca L mc E.1]) (br := [stB d na σ, stB d ta τ, viB d ca ν, giB ca E.1 κ, P]) (bc' := [bbB d ba ca na ta ka ia β, coB d ca dy fa κ, lsB d ca L mc E.1]) (bs' := [bbB d ba ca na ta ka ia β, stB d na σ, stB d ta τ, viB d ca ν, coB d ca dy fa κ, lsB d ca L mc E.1, giB ca E.1 κ, P]) (As := []) (rest := [.int x3]) (o := (some (.int v6))) C hkc hks (met_bl_girls hok hamb hL hg) (bq_pm [0, 4, 5, 1, 2, 3, 6, 7] rfl rfl rfl) (bq_pm [0, 3, 4, 5, 1, 2, 6, 7] rfl rfl rfl) (lw_V q979 q981 qs12 q113 q982) (hd_X1_girls) (Nat.le_of_ble_eq_true rfl) (Nat.le_of_ble_eq_true rfl) (va_recv hK hP (ci := 1) (q0 := 0) rfl rfl) rfl hl.1 rfl (Nat.le_of_ble_eq_true rfl) dX1_toRest_16 hP hD hS (fun H locs hP hD hS => ?_)
    refine lv_icmp_ge (tgt := 82) hx hb dX1_toRest_19 (by decide) (fun c7 => ?_) (fun c7 => ?_)
    · have hf := bq_ip c7 hf
      obtain ⟨rfl, rfl, rfl⟩ := bq_p3 hf
      exact hk0 _ _ hP hD hS ls (lv_sub hl [2] rfl)
    · have hf := bq_in c7 hf
      refine lv_aload_n hx hb dX1_toRest_22 rfl (lv_at hl 0 rfl) ?_
      refine gX1_get (own := RX1) (fs := (bbF ba ca na ta ka ia β)) (v := .ref (na 0)) hx hb hts hown hK hP (q0 := 0) rfl 3 (Nat.le_of_ble_eq_true rfl) (hts _ q758) rfl dX1_toRest_23 ?_
      refine lv_iload_n hx hb dX1_toRest_26 rfl (lv_at hl 3 rfl) ?_
      obtain ⟨v8, hg, hf⟩ := bq_b1s hf
      refine bq_cV (bs := [bbB d ba ca na ta ka ia β, stB d na σ, stB d ta τ, viB d ca ν, coB d ca dy fa κ, lsB d ca L mc E.1, giB ca E.1 κ, P]) (bc := [stB d na σ]) (br := [bbB d ba ca na ta ka ia β, stB d ta τ, viB d ca ν, coB d ca dy fa κ, lsB d ca L mc E.1, giB ca E.1 κ, P]) (bc' := [stB d na σ]) (bs' := [bbB d ba ca na ta ka ia β, stB d na σ, stB d ta τ, viB d ca ν, coB d ca dy fa κ, lsB d ca L mc E.1, giB ca E.1 κ, P]) (As := [.int x3]) (rest := []) (o := (some (.int v8))) C hkc hks (met_st_isResting hok hamb hg) (bq_pm [1, 0, 2, 3, 4, 5, 6, 7] rfl rfl rfl) (bq_pm [1, 0, 2, 3, 4, 5, 6, 7] rfl rfl rfl) (lw_V q984 q849 q850 q138 q851) (hd_X6_isResting) (Nat.le_of_ble_eq_true rfl) (Nat.le_of_ble_eq_true rfl) (va_recv hK hP (ci := 5) (q0 := 6) rfl rfl) rfl hl.1 rfl (Nat.le_of_ble_eq_true rfl) dX1_toRest_27 hP hD hS (fun H locs hP hD hS => ?_)
      refine lv_if_eq (tgt := 36) hx hb dX1_toRest_30 (by decide) (fun c9 => ?_) (fun c9 => ?_)
      · have hf := bq_ip c9 hf
        refine lv_aload_n hx hb dX1_toRest_36 rfl (lv_at hl 0 rfl) ?_
        refine lv_iconst (v := (0 : Int32)) hx hb dX1_toRest_37 (by decide) ?_
        obtain ⟨τ10, ν11, hg, hf⟩ := bq_b2s hf
        refine bq_cV (bs := [bbB d ba ca na ta ka ia β, stB d na σ, stB d ta τ, viB d ca ν, coB d ca dy fa κ, lsB d ca L mc E.1, giB ca E.1 κ, P]) (bc := [bbB d ba ca na ta ka ia β, stB d na σ, stB d ta τ, viB d ca ν, coB d ca dy fa κ, lsB d ca L mc E.1, giB ca E.1 κ, P]) (br := []) (bc' := [bbB d ba ca na ta ka ia β, stB d na σ, stB d ta τ10, viB d ca ν11, coB d ca dy fa κ, lsB d ca L mc E.1, giB ca E.1 κ, P]) (bs' := [bbB d ba ca na ta ka ia β, stB d na σ, stB d ta τ10, viB d ca ν11, coB d ca dy fa κ, lsB d ca L mc E.1, giB ca E.1 κ, P]) (As := [.int (0 : Int32)]) (rest := []) (o := none) C hkc hks (met_bl_tries hok hamb hE hby hL hg) (bq_pm [0, 1, 2, 3, 4, 5, 6, 7] rfl rfl rfl) (bq_pm [0, 1, 2, 3, 4, 5, 6, 7] rfl rfl rfl) (lw_V q959 q961 qs10 q113 q962) (hd_X1_tries) (Nat.le_of_ble_eq_true rfl) (Nat.le_of_ble_eq_true rfl) (va_recv hK hP (ci := 1) (q0 := 0) rfl rfl) rfl hl.1 rfl (Nat.le_of_ble_eq_true rfl) dX1_toRest_38 hP hD hS (fun H locs hP hD hS => ?_)
        refine lv_aload_n hx hb dX1_toRest_41 rfl (lv_at hl 0 rfl) ?_
        refine gX1_get (own := RX1) (fs := (bbF ba ca na ta ka ia β)) (v := .ref (ta 0)) hx hb hts hown hK hP (q0 := 0) rfl 4 (Nat.le_of_ble_eq_true rfl) (hts _ q759) rfl dX1_toRest_42 ?_
        refine lv_dup hx hb dX1_toRest_45 rfl ?_
        refine gX6_getN (own := RX1) (host := "BlueBag") (fs := (stF ta τ10)) (v := .int (τ10 0 6)) hx hb hts hown hK hP (q0 := 11) rfl 6 (Nat.le_of_ble_eq_true rfl) (bq_nF hamb hm 14 rfl) rfl dX1_toRest_46 ?_
        refine lv_iconst (v := (1 : Int32)) hx hb dX1_toRest_49 (by decide) ?_
        refine lv_iload_n hx hb dX1_toRest_50 rfl (lv_at hl 3 rfl) ?_
        refine lv_ishl hx hb dX1_toRest_51 ?_
        refine lv_ior hx hb dX1_toRest_52 ?_
        obtain ⟨τ12, eτ12, hf⟩ := bq_lts hf
        refine gX6_putN (own := RX1) (host := "BlueBag") (fs := (stF ta τ10)) (ty := .int) (ws' := (List.flatten ([bbB d ba ca na ta ka ia β, stB d na σ, stB d ta (bq_up τ10 0 6 ((τ10 0 6) ||| ((1 : Int32) <<< (x3 &&& 31)))), viB d ca ν11, coB d ca dy fa κ, lsB d ca L mc E.1, giB ca E.1 κ, P] : List va_W))) hx hb hts hown hK hP hD hS (q0 := 11) rfl 6 (Nat.le_of_ble_eq_true rfl) (bq_nF hamb hm 14 rfl) rfl rfl rfl rfl (Nat.le_of_ble_eq_true rfl) rfl dX1_toRest_53 (fun H locs hP hD hS => ?_)
        rw [← eτ12] at hP hD
        refine lv_aload_n hx hb dX1_toRest_56 rfl (lv_at hl 0 rfl) ?_
        obtain ⟨v13, τ14, ν15, hg, hf⟩ := bq_b3s hf
        refine bq_cV (bs := [bbB d ba ca na ta ka ia β, stB d na σ, stB d ta τ12, viB d ca ν11, coB d ca dy fa κ, lsB d ca L mc E.1, giB ca E.1 κ, P]) (bc := [bbB d ba ca na ta ka ia β, stB d na σ, stB d ta τ12, viB d ca ν11, coB d ca dy fa κ, lsB d ca L mc E.1, giB ca E.1 κ, P]) (br := []) (bc' := [bbB d ba ca na ta ka ia β, stB d na σ, stB d ta τ14, viB d ca ν15, coB d ca dy fa κ, lsB d ca L mc E.1, giB ca E.1 κ, P]) (bs' := [bbB d ba ca na ta ka ia β, stB d na σ, stB d ta τ14, viB d ca ν15, coB d ca dy fa κ, lsB d ca L mc E.1, giB ca E.1 κ, P]) (As := []) (rest := []) (o := (some (.int v13))) C hkc hks (met_bl_unevenNext hok hamb hE hby hL hg) (bq_pm [0, 1, 2, 3, 4, 5, 6, 7] rfl rfl rfl) (bq_pm [0, 1, 2, 3, 4, 5, 6, 7] rfl rfl rfl) (lw_V q967 q969 qs11 q113 q970) (hd_X1_unevenNext) (Nat.le_of_ble_eq_true rfl) (Nat.le_of_ble_eq_true rfl) (va_recv hK hP (ci := 1) (q0 := 0) rfl rfl) rfl hl.1 rfl (Nat.le_of_ble_eq_true rfl) dX1_toRest_57 hP hD hS (fun H locs hP hD hS => ?_)
        refine lv_istore (lv' := [(4, .int v13), (0, .ref (ba 0)), (1, .int x1), (2, .int x2), (3, .int x3)]) hx hb dX1_toRest_60 hl (by decide) rfl (fun ls hl => ?_)
        refine lv_iload hx hb dX1_toRest_62 (lv_at hl 0 rfl) ?_
        refine lv_iload_n hx hb dX1_toRest_64 rfl (lv_at hl 2 rfl) ?_
        refine lv_icmp_lt (tgt := 71) hx hb dX1_toRest_65 (by decide) (fun c16 => ?_) (fun c16 => ?_)
        · have hf := bq_ip c16 hf
          refine lv_iload_n hx hb dX1_toRest_71 rfl (lv_at hl 4 rfl) ?_
          refine lv_istore_n (lv' := [(2, .int x3), (4, .int v13), (0, .ref (ba 0)), (1, .int x1), (3, .int x3)]) hx hb dX1_toRest_72 rfl hl (by decide) rfl (fun ls hl => ?_)
          refine lv_iload hx hb dX1_toRest_73 (lv_at hl 1 rfl) ?_
          refine lv_istore_n (lv' := [(1, .int v13), (2, .int x3), (4, .int v13), (0, .ref (ba 0)), (3, .int x3)]) hx hb dX1_toRest_75 rfl hl (by decide) rfl (fun ls hl => ?_)
          obtain ⟨v17, ev17, hf⟩ := bq_lts hf
          refine lv_iinc (v := v17) (lv' := [(3, .int v17), (1, .int v13), (2, .int x3), (4, .int v13), (0, .ref (ba 0))]) hx hb dX1_toRest_76 hl (k := 4) rfl (bq_inc (by decide) ev17) (by decide) rfl (fun ls hl => ?_)
          refine lv_goto (tgt := 14) hx hb dX1_toRest_79 (by decide) ?_
          exact ih _ _ _ _ _ _ _ _ _ _ hf hP hD hS ls (lv_sub hl [4, 1, 2, 0] rfl) hk0
        · have hf := bq_in c16 hf
          refine lv_goto (tgt := 76) hx hb dX1_toRest_68 (by decide) ?_
          obtain ⟨v18, ev18, hf⟩ := bq_lts hf
          refine lv_iinc (v := v18) (lv' := [(3, .int v18), (4, .int v13), (0, .ref (ba 0)), (1, .int x1), (2, .int x2)]) hx hb dX1_toRest_76 hl (k := 4) rfl (bq_inc (by decide) ev18) (by decide) rfl (fun ls hl => ?_)
          refine lv_goto (tgt := 14) hx hb dX1_toRest_79 (by decide) ?_
          exact ih _ _ _ _ _ _ _ _ _ _ hf hP hD hS ls (lv_sub hl [2, 3, 4, 0] rfl) hk0
      · have hf := bq_in c9 hf
        refine lv_goto (tgt := 76) hx hb dX1_toRest_33 (by decide) ?_
        obtain ⟨v19, ev19, hf⟩ := bq_lts hf
        refine lv_iinc (v := v19) (lv' := [(3, .int v19), (0, .ref (ba 0)), (1, .int x1), (2, .int x2)]) hx hb dX1_toRest_76 hl (k := 3) rfl (bq_inc (by decide) ev19) (by decide) rfl (fun ls hl => ?_)
        refine lv_goto (tgt := 14) hx hb dX1_toRest_79 (by decide) ?_
        exact ih _ _ _ _ _ _ _ _ _ _ hf hP hD hS ls (lv_sub hl [1, 2, 3, 0] rfl) hk0
set_option maxHeartbeats 4000000 in
theorem met_bl_toRest {l : Launch} {D : va_G} {am : bqAm} {X vE sE : Nat → Nat} {d : Nat → ClassId} {ba ca ia ka na ta : Nat → Nat} {dy fa : Option Nat} {L : Nat} {mc : Int32} {P : va_W} {F : Nat} {E : bqE} {β : bqS} {σ : bqS} {τ : bqS} {ν : bqS} {κ : bqS} {τ' : bqS} {ν' : bqS} {r : Int32} (hok : bq_Ok am) (hamb : bq_Amb am X vE sE) (hE : bq_E P vE dy fa E) (hby : bq_By l D am d ca vE P 400) (hL : E.1 ≤ L ∧ L < 2147483648) (hf : bl_toRest F E β σ τ ν κ = some (r, τ', ν')) : bq_M l yX1_toRest cX1_toRest 5 (some .int) 805 24152 D bqCl (bqTy d) am [.ref (ba 0)] (List.flatten ([bbB d ba ca na ta ka ia β, stB d na σ, stB d ta τ, viB d ca ν, coB d ca dy fa κ, lsB d ca L mc E.1, giB ca E.1 κ, P] : List va_W)) (some (.int r)) (List.flatten ([bbB d ba ca na ta ka ia β, stB d na σ, stB d ta τ', viB d ca ν', coB d ca dy fa κ, lsB d ca L mc E.1, giB ca E.1 κ, P] : List va_W)) := by
  unfold bl_toRest at hf
  refine bq_of hok (by decide +kernel) (Nat.le_of_ble_eq_true rfl) ?_
  intro p e s m below meth c A ls C hr hP hD hS hl
  have C0 := C
  obtain ⟨hx, hb, hown, hts, hml, hlocks, hA, hK, hm, hRf, hRl, hok⟩ := C
  have C := C0
  have hkc := Nat.zero_le 0
  have hks := Nat.zero_le 0
  have hl : lv_has ls 5 [(0, .ref (ba 0))] := hl
  refine lv_aload_n hx hb dX1_toRest_0 rfl (lv_at hl 0 rfl) ?_
  refine lv_iconst (v := (0 : Int32)) hx hb dX1_toRest_1 (by decide) ?_
  obtain ⟨τ1, ν2, hg, hf⟩ := bq_b2s hf
  refine bq_cV (bs := [bbB d ba ca na ta ka ia β, stB d na σ, stB d ta τ, viB d ca ν, coB d ca dy fa κ, lsB d ca L mc E.1, giB ca E.1 κ, P]) (bc := [bbB d ba ca na ta ka ia β, stB d na σ, stB d ta τ, viB d ca ν, coB d ca dy fa κ, lsB d ca L mc E.1, giB ca E.1 κ, P]) (br := []) (bc' := [bbB d ba ca na ta ka ia β, stB d na σ, stB d ta τ1, viB d ca ν2, coB d ca dy fa κ, lsB d ca L mc E.1, giB ca E.1 κ, P]) (bs' := [bbB d ba ca na ta ka ia β, stB d na σ, stB d ta τ1, viB d ca ν2, coB d ca dy fa κ, lsB d ca L mc E.1, giB ca E.1 κ, P]) (As := [.int (0 : Int32)]) (rest := []) (o := none) C hkc hks (met_bl_tries hok hamb hE hby hL hg) (bq_pm [0, 1, 2, 3, 4, 5, 6, 7] rfl rfl rfl) (bq_pm [0, 1, 2, 3, 4, 5, 6, 7] rfl rfl rfl) (lw_V q959 q961 qs10 q113 q962) (hd_X1_tries) (Nat.le_of_ble_eq_true rfl) (Nat.le_of_ble_eq_true rfl) (va_recv hK hP (ci := 1) (q0 := 0) rfl rfl) rfl hl.1 rfl (Nat.le_of_ble_eq_true rfl) dX1_toRest_2 hP hD hS (fun H locs hP hD hS => ?_)
  refine lv_aload_n hx hb dX1_toRest_5 rfl (lv_at hl 0 rfl) ?_
  obtain ⟨v3, τ4, ν5, hg, hf⟩ := bq_b3s hf
  refine bq_cV (bs := [bbB d ba ca na ta ka ia β, stB d na σ, stB d ta τ1, viB d ca ν2, coB d ca dy fa κ, lsB d ca L mc E.1, giB ca E.1 κ, P]) (bc := [bbB d ba ca na ta ka ia β, stB d na σ, stB d ta τ1, viB d ca ν2, coB d ca dy fa κ, lsB d ca L mc E.1, giB ca E.1 κ, P]) (br := []) (bc' := [bbB d ba ca na ta ka ia β, stB d na σ, stB d ta τ4, viB d ca ν5, coB d ca dy fa κ, lsB d ca L mc E.1, giB ca E.1 κ, P]) (bs' := [bbB d ba ca na ta ka ia β, stB d na σ, stB d ta τ4, viB d ca ν5, coB d ca dy fa κ, lsB d ca L mc E.1, giB ca E.1 κ, P]) (As := []) (rest := []) (o := (some (.int v3))) C hkc hks (met_bl_unevenNext hok hamb hE hby hL hg) (bq_pm [0, 1, 2, 3, 4, 5, 6, 7] rfl rfl rfl) (bq_pm [0, 1, 2, 3, 4, 5, 6, 7] rfl rfl rfl) (lw_V q967 q969 qs11 q113 q970) (hd_X1_unevenNext) (Nat.le_of_ble_eq_true rfl) (Nat.le_of_ble_eq_true rfl) (va_recv hK hP (ci := 1) (q0 := 0) rfl rfl) rfl hl.1 rfl (Nat.le_of_ble_eq_true rfl) dX1_toRest_6 hP hD hS (fun H locs hP hD hS => ?_)
  refine lv_istore_n (lv' := [(1, .int v3), (0, .ref (ba 0))]) hx hb dX1_toRest_9 rfl hl (by decide) rfl (fun ls hl => ?_)
  refine lv_iconst (v := (-1 : Int32)) hx hb dX1_toRest_10 (by decide) ?_
  refine lv_istore_n (lv' := [(2, .int (-1 : Int32)), (1, .int v3), (0, .ref (ba 0))]) hx hb dX1_toRest_11 rfl hl (by decide) rfl (fun ls hl => ?_)
  refine lv_iconst (v := (0 : Int32)) hx hb dX1_toRest_12 (by decide) ?_
  refine lv_istore_n (lv' := [(3, .int (0 : Int32)), (2, .int (-1 : Int32)), (1, .int v3), (0, .ref (ba 0))]) hx hb dX1_toRest_13 rfl hl (by decide) rfl (fun ls hl => ?_)
  obtain ⟨v20, τ21, ν22, hg, hf⟩ := bq_b3s hf
  refine wk_bl_toRest_L14 C hkc hks hamb hE hby hL _ _ _ _ _ _ _ _ _ _ _ hg hP hD hS ls (lv_sub hl [3, 2, 1, 0] rfl) ?_
  · intro H locs hP hD hS ls hl
    refine lv_iload_n hx hb dX1_toRest_82 rfl (lv_at hl 0 rfl) ?_
    obtain ⟨rfl, rfl, rfl⟩ := bq_p3 hf
    exact bq_iret C hr hP hD hS dX1_toRest_83
set_option maxHeartbeats 4000000 in
theorem wk_bl_toStand_L23 {p : Program} {e : Env} {R : Room} {s : State} {m : MethodId} {args : Array Value} {below : List Frame} {meth : Method} {c : Code} {A : Nat → Prop} {kc ks : Nat} {Q : State → Prop} {l : Launch} {D : va_G} {am : bqAm} {X vE sE : Nat → Nat} {d : Nat → ClassId} {ba ca ia ka na ta : Nat → Nat} {dy fa : Option Nat} {L : Nat} {mc : Int32} {P : va_W} {F : Nat} {E : bqE} (C : bq_C p R s m args meth c A D bqCl (bqTy d) am cX1_toStand 7 RX1 805 24152) (hkc : kc ≤ R.cells) (hks : ks ≤ R.slots) (hamb : bq_Amb am X vE sE) (hst : l.stackTraces = false) (hE : bq_E P vE dy fa E) (hby : bq_By l D am d ca vE P 400) (hL : E.1 ≤ L ∧ L < 2147483648) {β : bqS} {σ : bqS} {κ : bqS} {x2 : Int32} :
    ∀ (k : Nat) (x1 : Int32) (x3 : Int32) (x4 : Int32) (x5 : Int32) (τ : bqS) (ν : bqS) (y3 : Int32) (y4 : Int32) (τ' : bqS) (ν' : bqS) (H : Heap) (locs : List Loc), bl_toStand_L23 F E β σ κ k x1 x3 x4 x5 τ ν = some (y3, y4, τ', ν') → va_P D bqCl (List.flatten ([bbB d ba ca na ta ka ia β, stB d na σ, stB d ta τ, viB d ca ν, coB d ca dy fa κ, lsB d ca L mc E.1, giB ca E.1 κ, P] : List va_W)) H → va_D A (List.flatten ([bbB d ba ca na ta ka ia β, stB d na σ, stB d ta τ, viB d ca ν, coB d ca dy fa κ, lsB d ca L mc E.1, giB ca E.1 κ, P] : List va_W)) → va_S A s.heap H locs → ∀ ls : Array Slot, lv_has ls 7 [(0, .ref (ba 0)), (1, .int x1), (2, .int x2), (3, .int x3), (4, .int x4), (5, .int x5)] →
      (∀ (H : Heap) (locs : List Loc), va_P D bqCl (List.flatten ([bbB d ba ca na ta ka ia β, stB d na σ, stB d ta τ', viB d ca ν', coB d ca dy fa κ, lsB d ca L mc E.1, giB ca E.1 κ, P] : List va_W)) H → va_D A (List.flatten ([bbB d ba ca na ta ka ia β, stB d na σ, stB d ta τ', viB d ca ν', coB d ca dy fa κ, lsB d ca L mc E.1, giB ca E.1 κ, P] : List va_W)) → va_S A s.heap H locs → ∀ ls : Array Slot, lv_has ls 7 [(2, .int x2), (3, .int y3), (4, .int y4)] → W p l e R s m args below meth c H locs kc ks Q (F0 m 82 ls [])) →
      W p l e R s m args below meth c H locs kc ks Q (F0 m 23 ls []) := by
  have C0 := C
  obtain ⟨hx, hb, hown, hts, hml, hlocks, hA, hK, hm, hRf, hRl, hok⟩ := C
  have C := C0
  intro k
  induction k with
  | zero => intro x1 x3 x4 x5 τ ν y3 y4 τ' ν' H locs hf
            cases hf
  | succ k ih =>
    intro x1 x3 x4 x5 τ ν y3 y4 τ' ν' H locs hf hP hD hS ls hl hk0
    rw [bl_toStand_L23] at hf
    refine lv_iload hx hb dX1_toStand_23 (lv_at hl 5 rfl) ?_
    refine lv_aload_n hx hb dX1_toStand_25 rfl (lv_at hl 0 rfl) ?_
    obtain ⟨v4, hg, hf⟩ := bq_b1s hf
    refine bq_cV (bs := [bbB d ba ca na ta ka ia β, stB d na σ, stB d ta τ, viB d ca ν, coB d ca dy fa κ, lsB d ca L mc E.1, giB ca E.1 κ, P]) (bc := [bbB d ba ca na ta ka ia β, coB d ca dy fa κ]) (br := [stB d na σ, stB d ta τ, viB d ca ν, lsB d ca L mc E.1, giB ca E.1 κ, P]) (bc' := [bbB d ba ca na ta ka ia β, coB d ca dy fa κ]) (bs' := [bbB d ba ca na ta ka ia β, stB d na σ, stB d ta τ, viB d ca ν, coB d ca dy fa κ, lsB d ca L mc E.1, giB ca E.1 κ, P]) (As := []) (rest := [.int x5]) (o := (some (.int v4))) C hkc hks (met_bl_cells hok hamb hg) (bq_pm [0, 4, 1, 2, 3, 5, 6, 7] rfl rfl rfl) (bq_pm [0, 2, 3, 4, 1, 5, 6, 7] rfl rfl rfl) (lw_V q990 q992 qs13 q113 q993) (hd_X1_cells) (Nat.le_of_ble_eq_true rfl) (Nat.le_of_ble_eq_true rfl) (va_recv hK hP (ci := 1) (q0 := 0) rfl rfl) rfl hl.1 rfl (Nat.le_of_ble_eq_true rfl) dX1_toStand_26 hP hD hS (fun H locs hP hD hS => ?_)
    refine lv_icmp_ge (tgt := 82) hx hb dX1_toStand_29 (by decide) (fun c5 => ?_) (fun c5 => ?_)
    · have hf := bq_ip c5 hf
      obtain ⟨rfl, rfl, rfl, rfl⟩ := bq_p4 hf
      exact hk0 _ _ hP hD hS ls (lv_sub hl [2, 3, 4] rfl)
    · have hf := bq_in c5 hf
      refine lv_aload_n hx hb dX1_toStand_32 rfl (lv_at hl 0 rfl) ?_
      refine lv_iconst (v := (0 : Int32)) hx hb dX1_toStand_33 (by decide) ?_
      obtain ⟨τ6, ν7, hg, hf⟩ := bq_b2s hf
      refine bq_cV (bs := [bbB d ba ca na ta ka ia β, stB d na σ, stB d ta τ, viB d ca ν, coB d ca dy fa κ, lsB d ca L mc E.1, giB ca E.1 κ, P]) (bc := [bbB d ba ca na ta ka ia β, stB d na σ, stB d ta τ, viB d ca ν, coB d ca dy fa κ, lsB d ca L mc E.1, giB ca E.1 κ, P]) (br := []) (bc' := [bbB d ba ca na ta ka ia β, stB d na σ, stB d ta τ6, viB d ca ν7, coB d ca dy fa κ, lsB d ca L mc E.1, giB ca E.1 κ, P]) (bs' := [bbB d ba ca na ta ka ia β, stB d na σ, stB d ta τ6, viB d ca ν7, coB d ca dy fa κ, lsB d ca L mc E.1, giB ca E.1 κ, P]) (As := [.int (0 : Int32)]) (rest := []) (o := none) C hkc hks (met_bl_tries hok hamb hE hby hL hg) (bq_pm [0, 1, 2, 3, 4, 5, 6, 7] rfl rfl rfl) (bq_pm [0, 1, 2, 3, 4, 5, 6, 7] rfl rfl rfl) (lw_V q959 q961 qs10 q113 q962) (hd_X1_tries) (Nat.le_of_ble_eq_true rfl) (Nat.le_of_ble_eq_true rfl) (va_recv hK hP (ci := 1) (q0 := 0) rfl rfl) rfl hl.1 rfl (Nat.le_of_ble_eq_true rfl) dX1_toStand_34 hP hD hS (fun H locs hP hD hS => ?_)
      refine lv_aload_n hx hb dX1_toStand_37 rfl (lv_at hl 0 rfl) ?_
      refine gX1_get (own := RX1) (fs := (bbF ba ca na ta ka ia β)) (v := .ref (ta 0)) hx hb hts hown hK hP (q0 := 0) rfl 4 (Nat.le_of_ble_eq_true rfl) (hts _ q759) rfl dX1_toStand_38 ?_
      refine gX6_getN (own := RX1) (host := "BlueBag") (fs := (stF ta τ6)) (v := .ref (ta 2)) hx hb hts hown hK hP (q0 := 11) rfl 1 (Nat.le_of_ble_eq_true rfl) (bq_nF hamb hm 16 rfl) rfl dX1_toStand_41 ?_
      refine lv_iload_n hx hb dX1_toStand_44 rfl (lv_at hl 1 rfl) ?_
      refine lv_iload hx hb dX1_toStand_45 (lv_at hl 5 rfl) ?_
      obtain ⟨h8, hf⟩ := bq_cks hf
      obtain ⟨τ9, eτ9, hf⟩ := bq_lts hf
      refine bq_ist (j := x1.toNatClampNeg) (f := τ6 2) (ws' := (List.flatten ([bbB d ba ca na ta ka ia β, stB d na σ, stB d ta (bq_up τ6 2 x1.toNatClampNeg x5), viB d ca ν7, coB d ca dy fa κ, lsB d ca L mc E.1, giB ca E.1 κ, P] : List va_W))) hx hb hK hP hD hS 13 rfl rfl h8 rfl rfl dX1_toStand_47 (fun H locs hP hD hS => ?_)
      rw [← eτ9] at hP hD
      refine lv_aload_n hx hb dX1_toStand_48 rfl (lv_at hl 0 rfl) ?_
      obtain ⟨v10, τ11, ν12, hg, hf⟩ := bq_b3s hf
      refine bq_cV (bs := [bbB d ba ca na ta ka ia β, stB d na σ, stB d ta τ9, viB d ca ν7, coB d ca dy fa κ, lsB d ca L mc E.1, giB ca E.1 κ, P]) (bc := [bbB d ba ca na ta ka ia β, stB d na σ, stB d ta τ9, viB d ca ν7, coB d ca dy fa κ, lsB d ca L mc E.1, giB ca E.1 κ, P]) (br := []) (bc' := [bbB d ba ca na ta ka ia β, stB d na σ, stB d ta τ11, viB d ca ν12, coB d ca dy fa κ, lsB d ca L mc E.1, giB ca E.1 κ, P]) (bs' := [bbB d ba ca na ta ka ia β, stB d na σ, stB d ta τ11, viB d ca ν12, coB d ca dy fa κ, lsB d ca L mc E.1, giB ca E.1 κ, P]) (As := []) (rest := []) (o := (some (.int v10))) C hkc hks (met_bl_unevenNext hok hamb hE hby hL hg) (bq_pm [0, 1, 2, 3, 4, 5, 6, 7] rfl rfl rfl) (bq_pm [0, 1, 2, 3, 4, 5, 6, 7] rfl rfl rfl) (lw_V q967 q969 qs11 q113 q970) (hd_X1_unevenNext) (Nat.le_of_ble_eq_true rfl) (Nat.le_of_ble_eq_true rfl) (va_recv hK hP (ci := 1) (q0 := 0) rfl rfl) rfl hl.1 rfl (Nat.le_of_ble_eq_true rfl) dX1_toStand_49 hP hD hS (fun H locs hP hD hS => ?_)
      refine lv_istore (lv' := [(6, .int v10), (0, .ref (ba 0)), (1, .int x1), (2, .int x2), (3, .int x3), (4, .int x4), (5, .int x5)]) hx hb dX1_toStand_52 hl (by decide) rfl (fun ls hl => ?_)
      refine lv_iload_n hx hb dX1_toStand_54 rfl (lv_at hl 4 rfl) ?_
      refine lv_iconst (v := (-1 : Int32)) hx hb dX1_toStand_55 (by decide) ?_
      refine lv_icmp_eq (tgt := 69) hx hb dX1_toStand_56 (by decide) (fun c13 => ?_) (fun c13 => ?_)
      · have hf := bq_ip c13 hf
        refine lv_iload hx hb dX1_toStand_69 (lv_at hl 6 rfl) ?_
        refine lv_istore_n (lv' := [(3, .int x5), (6, .int v10), (0, .ref (ba 0)), (1, .int x1), (2, .int x2), (4, .int x4), (5, .int x5)]) hx hb dX1_toStand_71 rfl hl (by decide) rfl (fun ls hl => ?_)
        refine lv_iload hx hb dX1_toStand_72 (lv_at hl 1 rfl) ?_
        refine lv_istore (lv' := [(4, .int v10), (3, .int x5), (6, .int v10), (0, .ref (ba 0)), (1, .int x1), (2, .int x2), (5, .int x5)]) hx hb dX1_toStand_74 hl (by decide) rfl (fun ls hl => ?_)
        obtain ⟨v14, ev14, hf⟩ := bq_lts hf
        refine lv_iinc (v := v14) (lv' := [(5, .int v14), (4, .int v10), (3, .int x5), (6, .int v10), (0, .ref (ba 0)), (1, .int x1), (2, .int x2)]) hx hb dX1_toStand_76 hl (k := 6) rfl (bq_inc (by decide) ev14) (by decide) rfl (fun ls hl => ?_)
        refine lv_goto (tgt := 23) hx hb dX1_toStand_79 (by decide) ?_
        exact ih _ _ _ _ _ _ _ _ _ _ _ _ hf hP hD hS ls (lv_sub hl [4, 5, 6, 2, 1, 0] rfl) hk0
      · have hf := bq_in c13 hf
        refine lv_iload hx hb dX1_toStand_59 (lv_at hl 0 rfl) ?_
        refine lv_iload hx hb dX1_toStand_61 (lv_at hl 5 rfl) ?_
        refine lv_icmp_lt (tgt := 69) hx hb dX1_toStand_63 (by decide) (fun c15 => ?_) (fun c15 => ?_)
        · have hf := bq_ip c15 hf
          refine lv_iload hx hb dX1_toStand_69 (lv_at hl 6 rfl) ?_
          refine lv_istore_n (lv' := [(3, .int x5), (6, .int v10), (0, .ref (ba 0)), (1, .int x1), (2, .int x2), (4, .int x4), (5, .int x5)]) hx hb dX1_toStand_71 rfl hl (by decide) rfl (fun ls hl => ?_)
          refine lv_iload hx hb dX1_toStand_72 (lv_at hl 1 rfl) ?_
          refine lv_istore (lv' := [(4, .int v10), (3, .int x5), (6, .int v10), (0, .ref (ba 0)), (1, .int x1), (2, .int x2), (5, .int x5)]) hx hb dX1_toStand_74 hl (by decide) rfl (fun ls hl => ?_)
          obtain ⟨v16, ev16, hf⟩ := bq_lts hf
          refine lv_iinc (v := v16) (lv' := [(5, .int v16), (4, .int v10), (3, .int x5), (6, .int v10), (0, .ref (ba 0)), (1, .int x1), (2, .int x2)]) hx hb dX1_toStand_76 hl (k := 6) rfl (bq_inc (by decide) ev16) (by decide) rfl (fun ls hl => ?_)
          refine lv_goto (tgt := 23) hx hb dX1_toStand_79 (by decide) ?_
          exact ih _ _ _ _ _ _ _ _ _ _ _ _ hf hP hD hS ls (lv_sub hl [4, 5, 6, 2, 1, 0] rfl) hk0
        · have hf := bq_in c15 hf
          refine lv_goto (tgt := 76) hx hb dX1_toStand_66 (by decide) ?_
          obtain ⟨v17, ev17, hf⟩ := bq_lts hf
          refine lv_iinc (v := v17) (lv' := [(5, .int v17), (6, .int v10), (0, .ref (ba 0)), (1, .int x1), (2, .int x2), (3, .int x3), (4, .int x4)]) hx hb dX1_toStand_76 hl (k := 6) rfl (bq_inc (by decide) ev17) (by decide) rfl (fun ls hl => ?_)
          refine lv_goto (tgt := 23) hx hb dX1_toStand_79 (by decide) ?_
          exact ih _ _ _ _ _ _ _ _ _ _ _ _ hf hP hD hS ls (lv_sub hl [2, 3, 4, 5, 6, 0] rfl) hk0
set_option maxHeartbeats 4000000 in
theorem met_bl_toStand {l : Launch} {D : va_G} {am : bqAm} {X vE sE : Nat → Nat} {d : Nat → ClassId} {ba ca ia ka na ta : Nat → Nat} {dy fa : Option Nat} {L : Nat} {mc : Int32} {P : va_W} {F : Nat} {E : bqE} {β : bqS} {σ : bqS} {τ : bqS} {ν : bqS} {κ : bqS} {τ' : bqS} {ν' : bqS} {r : Int32} {tg : Nat} {x1 : Int32} {x2 : Int32} (hok : bq_Ok am) (hamb : bq_Amb am X vE sE) (hst : l.stackTraces = false) (hE : bq_E P vE dy fa E) (hby : bq_By l D am d ca vE P 400) (hL : E.1 ≤ L ∧ L < 2147483648) (hf : bl_toStand F E β σ τ ν κ x1 x2 = some (tg, r, τ', ν')) : bq_X l yX1_toStand cX1_toStand 7 (some .int) 805 24152 2 12 D bqCl (bqTy d) am [.ref (ba 0), .int x1, .int x2] (List.flatten ([bbB d ba ca na ta ka ia β, stB d na σ, stB d ta τ, viB d ca ν, coB d ca dy fa κ, lsB d ca L mc E.1, giB ca E.1 κ, P] : List va_W)) tg (some (.int r)) (List.flatten ([bbB d ba ca na ta ka ia β, stB d na σ, stB d ta τ', viB d ca ν', coB d ca dy fa κ, lsB d ca L mc E.1, giB ca E.1 κ, P] : List va_W)) := by
  unfold bl_toStand at hf
  refine bq_ofX hok (by decide +kernel) (Nat.le_of_ble_eq_true rfl) ?_
  intro p e s m below meth c A ls C hr hex hP hD hS hl
  have C0 := C
  obtain ⟨hx, hb, hown, hts, hml, hlocks, hA, hK, hm, hRf, hRl, hok⟩ := C
  have C := C0
  have hkc := Nat.zero_le 2
  have hks := Nat.zero_le 12
  have hl : lv_has ls 7 [(0, .ref (ba 0)), (1, .int x1), (2, .int x2)] := hl
  refine lv_aload_n hx hb dX1_toStand_0 rfl (lv_at hl 0 rfl) ?_
  refine lv_iload_n hx hb dX1_toStand_1 rfl (lv_at hl 1 rfl) ?_
  obtain ⟨t1, hg, hf⟩ := bq_b1s hf
  refine bq_cVX (bs := [bbB d ba ca na ta ka ia β, stB d na σ, stB d ta τ, viB d ca ν, coB d ca dy fa κ, lsB d ca L mc E.1, giB ca E.1 κ, P]) (bc := [bbB d ba ca na ta ka ia β, coB d ca dy fa κ, lsB d ca L mc E.1, giB ca E.1 κ]) (br := [stB d na σ, stB d ta τ, viB d ca ν, P]) (bc' := [bbB d ba ca na ta ka ia β, coB d ca dy fa κ, lsB d ca L mc E.1, giB ca E.1 κ]) (bs' := [bbB d ba ca na ta ka ia β, stB d na σ, stB d ta τ, viB d ca ν, coB d ca dy fa κ, lsB d ca L mc E.1, giB ca E.1 κ, P]) (As := [.int x1]) (rest := []) (o := (some (.ref (ca (10 + x1.toNatClampNeg))))) C (Nat.le_of_ble_eq_true rfl) (Nat.le_of_ble_eq_true rfl) (met_bl_girlAt hok hamb hst hL hg) (bq_pm [0, 4, 5, 6, 1, 2, 3, 7] rfl rfl rfl) (bq_pm [0, 4, 5, 6, 1, 2, 3, 7] rfl rfl rfl) (lw_V q1444 q1446 qs38 q113 q1447) (hd_X1_girlAt) (Nat.le_of_ble_eq_true rfl) (Nat.le_of_ble_eq_true rfl) (va_recv hK hP (ci := 1) (q0 := 0) rfl rfl) rfl hl.1 rfl (Nat.le_of_ble_eq_true rfl) dX1_toStand_2 hP hD hS (fun ht_ H locs hP hD hS => ?_) (fun ht_ => ?_)
  · have hf := bq_ip ht_ hf
    have hkc : 1 ≤ 2 := by decide
    have hks : 6 ≤ 12 := by decide
    have hg_ := hg
    rw [ht_] at hg_
    refine lv_pop hx hb dX1_toStand_5 rfl ?_
    refine lv_iload_n hx hb dX1_toStand_6 rfl (lv_at hl 2 rfl) ?_
    refine lv_iconst (v := (0 : Int32)) hx hb dX1_toStand_7 (by decide) ?_
    refine lv_iconst (v := (1 : Int32)) hx hb dX1_toStand_8 (by decide) ?_
    obtain ⟨v2, hg, hf⟩ := bq_b1s hf
    refine bq_cS (bs := [bbB d ba ca na ta ka ia β, stB d na σ, stB d ta τ, viB d ca ν, coB d ca dy fa κ, lsB d ca L mc E.1, giB ca E.1 κ, P]) (bc := []) (br := [bbB d ba ca na ta ka ia β, stB d na σ, stB d ta τ, viB d ca ν, coB d ca dy fa κ, lsB d ca L mc E.1, giB ca E.1 κ, P]) (bc' := []) (bs' := [bbB d ba ca na ta ka ia β, stB d na σ, stB d ta τ, viB d ca ν, coB d ca dy fa κ, lsB d ca L mc E.1, giB ca E.1 κ, P]) (As := [.int x2, .int (0 : Int32), .int (1 : Int32)]) (rest := []) (o := (some (.int v2))) C hkc hks (met_bl_within hok hg) (bq_pm [0, 1, 2, 3, 4, 5, 6, 7] rfl rfl rfl) (bq_pm [0, 1, 2, 3, 4, 5, 6, 7] rfl rfl rfl) (lw_S q814 q815 q113 q816) (hd_X1_within) (Nat.le_of_ble_eq_true rfl) (Nat.le_of_ble_eq_true rfl) rfl hl.1 rfl (Nat.le_of_ble_eq_true rfl) dX1_toStand_9 hP hD hS (fun H locs hP hD hS => ?_)
    obtain ⟨t3, hg, hf⟩ := bq_b1s hf
    refine bq_cSX (bs := [bbB d ba ca na ta ka ia β, stB d na σ, stB d ta τ, viB d ca ν, coB d ca dy fa κ, lsB d ca L mc E.1, giB ca E.1 κ, P]) (bc := []) (br := [bbB d ba ca na ta ka ia β, stB d na σ, stB d ta τ, viB d ca ν, coB d ca dy fa κ, lsB d ca L mc E.1, giB ca E.1 κ, P]) (bc' := []) (bs' := [bbB d ba ca na ta ka ia β, stB d na σ, stB d ta τ, viB d ca ν, coB d ca dy fa κ, lsB d ca L mc E.1, giB ca E.1 κ, P]) (As := [.int v2]) (rest := []) (o := none) C (Nat.le_of_ble_eq_true rfl) (Nat.le_of_ble_eq_true rfl) (met_bl_there hok hamb hst hg) (bq_pm [0, 1, 2, 3, 4, 5, 6, 7] rfl rfl rfl) (bq_pm [0, 1, 2, 3, 4, 5, 6, 7] rfl rfl rfl) (lw_S q1394 q1395 q113 q1396) (hd_X1_there) (Nat.le_of_ble_eq_true rfl) (Nat.le_of_ble_eq_true rfl) rfl hl.1 rfl (Nat.le_of_ble_eq_true rfl) dX1_toStand_12 hP hD hS (fun ht_ H locs hP hD hS => ?_) (fun ht_ => ?_)
    · have hf := bq_ip ht_ hf
      have hkc : 2 ≤ 2 := by decide
      have hks : 12 ≤ 12 := by decide
      refine lv_iconst (v := (-1 : Int32)) hx hb dX1_toStand_15 (by decide) ?_
      refine lv_istore_n (lv' := [(3, .int (-1 : Int32)), (0, .ref (ba 0)), (1, .int x1), (2, .int x2)]) hx hb dX1_toStand_16 rfl hl (by decide) rfl (fun ls hl => ?_)
      refine lv_iconst (v := (0 : Int32)) hx hb dX1_toStand_17 (by decide) ?_
      refine lv_istore (lv' := [(4, .int (0 : Int32)), (3, .int (-1 : Int32)), (0, .ref (ba 0)), (1, .int x1), (2, .int x2)]) hx hb dX1_toStand_18 hl (by decide) rfl (fun ls hl => ?_)
      refine lv_iconst (v := (0 : Int32)) hx hb dX1_toStand_20 (by decide) ?_
      refine lv_istore (lv' := [(5, .int (0 : Int32)), (4, .int (0 : Int32)), (3, .int (-1 : Int32)), (0, .ref (ba 0)), (1, .int x1), (2, .int x2)]) hx hb dX1_toStand_21 hl (by decide) rfl (fun ls hl => ?_)
      obtain ⟨v18, v19, τ20, ν21, hg, hf⟩ := bq_b4s hf
      refine wk_bl_toStand_L23 C hkc hks hamb hst hE hby hL _ _ _ _ _ _ _ _ _ _ _ _ _ hg hP hD hS ls (lv_sub hl [3, 4, 5, 2, 1, 0] rfl) ?_
      · intro H locs hP hD hS ls hl
        refine lv_iload_n hx hb dX1_toStand_82 rfl (lv_at hl 0 rfl) ?_
        refine lv_if_ne (tgt := 90) hx hb dX1_toStand_83 (by decide) (fun c22 => ?_) (fun c22 => ?_)
        · have hf := bq_in c22 hf
          refine lv_iload hx hb dX1_toStand_90 (lv_at hl 2 rfl) ?_
          obtain ⟨rfl, rfl, rfl, rfl⟩ := bq_p4 hf
          exact bq_iretX C hr (by decide) (by decide) hP hD hS dX1_toStand_92
        · have hf := bq_ip c22 hf
          refine lv_iload_n hx hb dX1_toStand_86 rfl (lv_at hl 1 rfl) ?_
          refine lv_goto (tgt := 92) hx hb dX1_toStand_87 (by decide) ?_
          obtain ⟨rfl, rfl, rfl, rfl⟩ := bq_p4 hf
          exact bq_iretX C hr (by decide) (by decide) hP hD hS dX1_toStand_92
    · have hf := bq_in ht_ hf
      obtain ⟨rfl, rfl, rfl, rfl⟩ := bq_p4 hf
      exact bq_prop C hex ht_ (by decide) (by decide)
  · have hf := bq_in ht_ hf
    obtain ⟨rfl, rfl, rfl, rfl⟩ := bq_p4 hf
    exact bq_prop C hex ht_ (by decide) (by decide)
set_option maxHeartbeats 4000000 in
theorem wk_bl_toSwish_L23 {p : Program} {e : Env} {R : Room} {s : State} {m : MethodId} {args : Array Value} {below : List Frame} {meth : Method} {c : Code} {A : Nat → Prop} {kc ks : Nat} {Q : State → Prop} {l : Launch} {D : va_G} {am : bqAm} {X vE sE : Nat → Nat} {d : Nat → ClassId} {ba ca ia ka na ta : Nat → Nat} {dy fa : Option Nat} {L : Nat} {mc : Int32} {P : va_W} {F : Nat} {E : bqE} (C : bq_C p R s m args meth c A D bqCl (bqTy d) am cX1_toSwish 4 RX1 805 24152) (hkc : kc ≤ R.cells) (hks : ks ≤ R.slots) (hamb : bq_Amb am X vE sE) (hst : l.stackTraces = false) (hE : bq_E P vE dy fa E) (hby : bq_By l D am d ca vE P 400) (hL : E.1 ≤ L ∧ L < 2147483648) {β : bqS} {σ : bqS} {κ : bqS} :
    ∀ (k : Nat) (x1 : Int32) (x2 : Int32) (x3 : Int32) (τ : bqS) (ν : bqS) (tg : Nat) (y3 : Int32) (τ' : bqS) (ν' : bqS) (H : Heap) (locs : List Loc), bl_toSwish_L23 F E β σ κ k x1 x2 x3 τ ν = some (tg, y3, τ', ν') → va_P D bqCl (List.flatten ([bbB d ba ca na ta ka ia β, stB d na σ, stB d ta τ, viB d ca ν, coB d ca dy fa κ, lsB d ca L mc E.1, giB ca E.1 κ, P] : List va_W)) H → va_D A (List.flatten ([bbB d ba ca na ta ka ia β, stB d na σ, stB d ta τ, viB d ca ν, coB d ca dy fa κ, lsB d ca L mc E.1, giB ca E.1 κ, P] : List va_W)) → va_S A s.heap H locs → ∀ ls : Array Slot, lv_has ls 4 [(0, .ref (ba 0)), (1, .int x1), (2, .int x2), (3, .int x3)] →
      (tg = 0 → ∀ (H : Heap) (locs : List Loc), va_P D bqCl (List.flatten ([bbB d ba ca na ta ka ia β, stB d na σ, stB d ta τ', viB d ca ν', coB d ca dy fa κ, lsB d ca L mc E.1, giB ca E.1 κ, P] : List va_W)) H → va_D A (List.flatten ([bbB d ba ca na ta ka ia β, stB d na σ, stB d ta τ', viB d ca ν', coB d ca dy fa κ, lsB d ca L mc E.1, giB ca E.1 κ, P] : List va_W)) → va_S A s.heap H locs → ∀ ls : Array Slot, lv_has ls 4 [(3, .int y3)] → W p l e R s m args below meth c H locs kc ks Q (F0 m 50 ls [])) →
      (tg = 1 → ∀ (H : Heap) (locs : List Loc), va_P D bqCl (List.flatten ([bbB d ba ca na ta ka ia β, stB d na σ, stB d ta τ', viB d ca ν', coB d ca dy fa κ, lsB d ca L mc E.1, giB ca E.1 κ, P] : List va_W)) H → va_D A (List.flatten ([bbB d ba ca na ta ka ia β, stB d na σ, stB d ta τ', viB d ca ν', coB d ca dy fa κ, lsB d ca L mc E.1, giB ca E.1 κ, P] : List va_W)) → va_S A s.heap H locs → ∀ ls : Array Slot, lv_has ls 4 [] → W p l e R s m args below meth c H locs kc ks Q (F0 m 70 ls [])) →
      W p l e R s m args below meth c H locs kc ks Q (F0 m 23 ls []) := by
  have C0 := C
  obtain ⟨hx, hb, hown, hts, hml, hlocks, hA, hK, hm, hRf, hRl, hok⟩ := C
  have C := C0
  intro k
  induction k with
  | zero => intro x1 x2 x3 τ ν tg y3 τ' ν' H locs hf
            cases hf
  | succ k ih =>
    intro x1 x2 x3 τ ν tg y3 τ' ν' H locs hf hP hD hS ls hl hk0 hk1
    rw [bl_toSwish_L23] at hf
    refine lv_iload_n hx hb dX1_toSwish_23 rfl (lv_at hl 3 rfl) ?_
    refine lv_bipush (v := (20 : Int32)) hx hb dX1_toSwish_24 (by decide) ?_
    refine lv_icmp_gt (tgt := 70) hx hb dX1_toSwish_26 (by decide) (fun c6 => ?_) (fun c6 => ?_)
    · have hf := bq_ip c6 hf
      obtain ⟨rfl, rfl, rfl, rfl⟩ := bq_p4 hf
      exact hk1 rfl _ _ hP hD hS ls (lv_sub hl [] rfl)
    · have hf := bq_in c6 hf
      refine lv_aload_n hx hb dX1_toSwish_29 rfl (lv_at hl 0 rfl) ?_
      refine gX1_get (own := RX1) (fs := (bbF ba ca na ta ka ia β)) (v := .ref (ta 0)) hx hb hts hown hK hP (q0 := 0) rfl 4 (Nat.le_of_ble_eq_true rfl) (hts _ q759) rfl dX1_toSwish_30 ?_
      refine gX6_getN (own := RX1) (host := "BlueBag") (fs := (stF ta τ)) (v := .ref (ta 1)) hx hb hts hown hK hP (q0 := 11) rfl 0 (Nat.le_of_ble_eq_true rfl) (bq_nF hamb hm 15 rfl) rfl dX1_toSwish_33 ?_
      refine lv_aload_n hx hb dX1_toSwish_36 rfl (lv_at hl 0 rfl) ?_
      refine gX1_get (own := RX1) (fs := (bbF ba ca na ta ka ia β)) (v := .ref (ta 0)) hx hb hts hown hK hP (q0 := 0) rfl 4 (Nat.le_of_ble_eq_true rfl) (hts _ q759) rfl dX1_toSwish_37 ?_
      refine gX6_getN (own := RX1) (host := "BlueBag") (fs := (stF ta τ)) (v := .ref (ta 2)) hx hb hts hown hK hP (q0 := 11) rfl 1 (Nat.le_of_ble_eq_true rfl) (bq_nF hamb hm 16 rfl) rfl dX1_toSwish_40 ?_
      refine lv_iload_n hx hb dX1_toSwish_43 rfl (lv_at hl 1 rfl) ?_
      obtain ⟨h7, hf⟩ := bq_cks hf
      refine bq_ild (j := x1.toNatClampNeg) (f := τ 2) (q := 0) hx hb hK hP 13 rfl rfl h7 rfl dX1_toSwish_44 ?_
      obtain ⟨h8, hf⟩ := bq_cks hf
      refine bq_ild (j := ((τ 2 x1.toNatClampNeg).toNatClampNeg)) (f := τ 1) (q := 0) hx hb hK hP 12 rfl rfl h8 rfl dX1_toSwish_45 ?_
      refine lv_iload_n hx hb dX1_toSwish_46 rfl (lv_at hl 2 rfl) ?_
      refine lv_icmp_lt (tgt := 52) hx hb dX1_toSwish_47 (by decide) (fun c9 => ?_) (fun c9 => ?_)
      · have hf := bq_ip c9 hf
        refine lv_aload_n hx hb dX1_toSwish_52 rfl (lv_at hl 0 rfl) ?_
        refine gX1_get (own := RX1) (fs := (bbF ba ca na ta ka ia β)) (v := .ref (ta 0)) hx hb hts hown hK hP (q0 := 0) rfl 4 (Nat.le_of_ble_eq_true rfl) (hts _ q759) rfl dX1_toSwish_53 ?_
        refine lv_aload_n hx hb dX1_toSwish_56 rfl (lv_at hl 0 rfl) ?_
        refine gX1_get (own := RX1) (fs := (bbF ba ca na ta ka ia β)) (v := .ref (ca 0)) hx hb hts hown hK hP (q0 := 0) rfl 0 (Nat.le_of_ble_eq_true rfl) (hts _ q755) rfl dX1_toSwish_57 ?_
        refine lv_iload_n hx hb dX1_toSwish_60 rfl (lv_at hl 1 rfl) ?_
        obtain ⟨τ10, ν11, hg, hf⟩ := bq_b2s hf
        refine bq_cV (bs := [bbB d ba ca na ta ka ia β, stB d na σ, stB d ta τ, viB d ca ν, coB d ca dy fa κ, lsB d ca L mc E.1, giB ca E.1 κ, P]) (bc := [stB d ta τ, viB d ca ν, coB d ca dy fa κ, lsB d ca L mc E.1, giB ca E.1 κ, P]) (br := [bbB d ba ca na ta ka ia β, stB d na σ]) (bc' := [stB d ta τ10, viB d ca ν11, coB d ca dy fa κ, lsB d ca L mc E.1, giB ca E.1 κ, P]) (bs' := [bbB d ba ca na ta ka ia β, stB d na σ, stB d ta τ10, viB d ca ν11, coB d ca dy fa κ, lsB d ca L mc E.1, giB ca E.1 κ, P]) (As := [.ref (ca 0), .int x1]) (rest := []) (o := none) C hkc hks (met_st_swishes hok hamb hE hby hL hg) (bq_pm [2, 3, 4, 5, 6, 7, 0, 1] rfl rfl rfl) (bq_pm [6, 7, 0, 1, 2, 3, 4, 5] rfl rfl rfl) (lw_V q1557 q853 q854 q138 q855) (hd_X6_swishes) (Nat.le_of_ble_eq_true rfl) (Nat.le_of_ble_eq_true rfl) (va_recv hK hP (ci := 5) (q0 := 11) rfl rfl) rfl hl.1 rfl (Nat.le_of_ble_eq_true rfl) dX1_toSwish_61 hP hD hS (fun H locs hP hD hS => ?_)
        obtain ⟨v12, ev12, hf⟩ := bq_lts hf
        refine lv_iinc (v := v12) (lv' := [(3, .int v12), (0, .ref (ba 0)), (1, .int x1), (2, .int x2)]) hx hb dX1_toSwish_64 hl (k := 3) rfl (bq_inc (by decide) ev12) (by decide) rfl (fun ls hl => ?_)
        refine lv_goto (tgt := 23) hx hb dX1_toSwish_67 (by decide) ?_
        exact ih _ _ _ _ _ _ _ _ _ _ _ hf hP hD hS ls (lv_sub hl [1, 2, 3, 0] rfl) hk0 hk1
      · have hf := bq_in c9 hf
        obtain ⟨rfl, rfl, rfl, rfl⟩ := bq_p4 hf
        exact hk0 rfl _ _ hP hD hS ls (lv_sub hl [3] rfl)
set_option maxHeartbeats 4000000 in
theorem met_bl_toSwish {l : Launch} {D : va_G} {am : bqAm} {X vE sE : Nat → Nat} {d : Nat → ClassId} {ba ca ia ka na ta : Nat → Nat} {dy fa : Option Nat} {L : Nat} {mc : Int32} {P : va_W} {F : Nat} {E : bqE} {β : bqS} {σ : bqS} {τ : bqS} {ν : bqS} {κ : bqS} {τ' : bqS} {ν' : bqS} {r : Int32} {tg : Nat} {x1 : Int32} {x2 : Int32} (hok : bq_Ok am) (hamb : bq_Amb am X vE sE) (hst : l.stackTraces = false) (hE : bq_E P vE dy fa E) (hby : bq_By l D am d ca vE P 400) (hL : E.1 ≤ L ∧ L < 2147483648) (hf : bl_toSwish F E β σ τ ν κ x1 x2 = some (tg, r, τ', ν')) : bq_X l yX1_toSwish cX1_toSwish 4 (some .int) 805 24152 2 12 D bqCl (bqTy d) am [.ref (ba 0), .int x1, .int x2] (List.flatten ([bbB d ba ca na ta ka ia β, stB d na σ, stB d ta τ, viB d ca ν, coB d ca dy fa κ, lsB d ca L mc E.1, giB ca E.1 κ, P] : List va_W)) tg (some (.int r)) (List.flatten ([bbB d ba ca na ta ka ia β, stB d na σ, stB d ta τ', viB d ca ν', coB d ca dy fa κ, lsB d ca L mc E.1, giB ca E.1 κ, P] : List va_W)) := by
  unfold bl_toSwish at hf
  refine bq_ofX hok (by decide +kernel) (Nat.le_of_ble_eq_true rfl) ?_
  intro p e s m below meth c A ls C hr hex hP hD hS hl
  have C0 := C
  obtain ⟨hx, hb, hown, hts, hml, hlocks, hA, hK, hm, hRf, hRl, hok⟩ := C
  have C := C0
  have hkc := Nat.zero_le 2
  have hks := Nat.zero_le 12
  have hl : lv_has ls 4 [(0, .ref (ba 0)), (1, .int x1), (2, .int x2)] := hl
  refine lv_aload_n hx hb dX1_toSwish_0 rfl (lv_at hl 0 rfl) ?_
  refine lv_iload_n hx hb dX1_toSwish_1 rfl (lv_at hl 1 rfl) ?_
  obtain ⟨t1, hg, hf⟩ := bq_b1s hf
  refine bq_cVX (bs := [bbB d ba ca na ta ka ia β, stB d na σ, stB d ta τ, viB d ca ν, coB d ca dy fa κ, lsB d ca L mc E.1, giB ca E.1 κ, P]) (bc := [bbB d ba ca na ta ka ia β, coB d ca dy fa κ, lsB d ca L mc E.1, giB ca E.1 κ]) (br := [stB d na σ, stB d ta τ, viB d ca ν, P]) (bc' := [bbB d ba ca na ta ka ia β, coB d ca dy fa κ, lsB d ca L mc E.1, giB ca E.1 κ]) (bs' := [bbB d ba ca na ta ka ia β, stB d na σ, stB d ta τ, viB d ca ν, coB d ca dy fa κ, lsB d ca L mc E.1, giB ca E.1 κ, P]) (As := [.int x1]) (rest := []) (o := (some (.ref (ca (10 + x1.toNatClampNeg))))) C (Nat.le_of_ble_eq_true rfl) (Nat.le_of_ble_eq_true rfl) (met_bl_girlAt hok hamb hst hL hg) (bq_pm [0, 4, 5, 6, 1, 2, 3, 7] rfl rfl rfl) (bq_pm [0, 4, 5, 6, 1, 2, 3, 7] rfl rfl rfl) (lw_V q1444 q1446 qs38 q113 q1447) (hd_X1_girlAt) (Nat.le_of_ble_eq_true rfl) (Nat.le_of_ble_eq_true rfl) (va_recv hK hP (ci := 1) (q0 := 0) rfl rfl) rfl hl.1 rfl (Nat.le_of_ble_eq_true rfl) dX1_toSwish_2 hP hD hS (fun ht_ H locs hP hD hS => ?_) (fun ht_ => ?_)
  · have hf := bq_ip ht_ hf
    have hkc : 1 ≤ 2 := by decide
    have hks : 6 ≤ 12 := by decide
    have hg_ := hg
    rw [ht_] at hg_
    refine lv_pop hx hb dX1_toSwish_5 rfl ?_
    refine lv_iload_n hx hb dX1_toSwish_6 rfl (lv_at hl 2 rfl) ?_
    refine lv_iconst (v := (0 : Int32)) hx hb dX1_toSwish_7 (by decide) ?_
    refine lv_bipush (v := (99 : Int32)) hx hb dX1_toSwish_8 (by decide) ?_
    obtain ⟨v2, hg, hf⟩ := bq_b1s hf
    refine bq_cS (bs := [bbB d ba ca na ta ka ia β, stB d na σ, stB d ta τ, viB d ca ν, coB d ca dy fa κ, lsB d ca L mc E.1, giB ca E.1 κ, P]) (bc := []) (br := [bbB d ba ca na ta ka ia β, stB d na σ, stB d ta τ, viB d ca ν, coB d ca dy fa κ, lsB d ca L mc E.1, giB ca E.1 κ, P]) (bc' := []) (bs' := [bbB d ba ca na ta ka ia β, stB d na σ, stB d ta τ, viB d ca ν, coB d ca dy fa κ, lsB d ca L mc E.1, giB ca E.1 κ, P]) (As := [.int x2, .int (0 : Int32), .int (99 : Int32)]) (rest := []) (o := (some (.int v2))) C hkc hks (met_bl_within hok hg) (bq_pm [0, 1, 2, 3, 4, 5, 6, 7] rfl rfl rfl) (bq_pm [0, 1, 2, 3, 4, 5, 6, 7] rfl rfl rfl) (lw_S q814 q815 q113 q816) (hd_X1_within) (Nat.le_of_ble_eq_true rfl) (Nat.le_of_ble_eq_true rfl) rfl hl.1 rfl (Nat.le_of_ble_eq_true rfl) dX1_toSwish_10 hP hD hS (fun H locs hP hD hS => ?_)
    obtain ⟨t3, hg, hf⟩ := bq_b1s hf
    refine bq_cSX (bs := [bbB d ba ca na ta ka ia β, stB d na σ, stB d ta τ, viB d ca ν, coB d ca dy fa κ, lsB d ca L mc E.1, giB ca E.1 κ, P]) (bc := []) (br := [bbB d ba ca na ta ka ia β, stB d na σ, stB d ta τ, viB d ca ν, coB d ca dy fa κ, lsB d ca L mc E.1, giB ca E.1 κ, P]) (bc' := []) (bs' := [bbB d ba ca na ta ka ia β, stB d na σ, stB d ta τ, viB d ca ν, coB d ca dy fa κ, lsB d ca L mc E.1, giB ca E.1 κ, P]) (As := [.int v2]) (rest := []) (o := none) C (Nat.le_of_ble_eq_true rfl) (Nat.le_of_ble_eq_true rfl) (met_bl_right hok hamb hst hg) (bq_pm [0, 1, 2, 3, 4, 5, 6, 7] rfl rfl rfl) (bq_pm [0, 1, 2, 3, 4, 5, 6, 7] rfl rfl rfl) (lw_S q1021 q1022 q113 q1023) (hd_X1_right) (Nat.le_of_ble_eq_true rfl) (Nat.le_of_ble_eq_true rfl) rfl hl.1 rfl (Nat.le_of_ble_eq_true rfl) dX1_toSwish_13 hP hD hS (fun ht_ H locs hP hD hS => ?_) (fun ht_ => ?_)
    · have hf := bq_ip ht_ hf
      have hkc : 2 ≤ 2 := by decide
      have hks : 12 ≤ 12 := by decide
      refine lv_aload_n hx hb dX1_toSwish_16 rfl (lv_at hl 0 rfl) ?_
      refine lv_iconst (v := (0 : Int32)) hx hb dX1_toSwish_17 (by decide) ?_
      obtain ⟨τ4, ν5, hg, hf⟩ := bq_b2s hf
      refine bq_cV (bs := [bbB d ba ca na ta ka ia β, stB d na σ, stB d ta τ, viB d ca ν, coB d ca dy fa κ, lsB d ca L mc E.1, giB ca E.1 κ, P]) (bc := [bbB d ba ca na ta ka ia β, stB d na σ, stB d ta τ, viB d ca ν, coB d ca dy fa κ, lsB d ca L mc E.1, giB ca E.1 κ, P]) (br := []) (bc' := [bbB d ba ca na ta ka ia β, stB d na σ, stB d ta τ4, viB d ca ν5, coB d ca dy fa κ, lsB d ca L mc E.1, giB ca E.1 κ, P]) (bs' := [bbB d ba ca na ta ka ia β, stB d na σ, stB d ta τ4, viB d ca ν5, coB d ca dy fa κ, lsB d ca L mc E.1, giB ca E.1 κ, P]) (As := [.int (0 : Int32)]) (rest := []) (o := none) C hkc hks (met_bl_tries hok hamb hE hby hL hg) (bq_pm [0, 1, 2, 3, 4, 5, 6, 7] rfl rfl rfl) (bq_pm [0, 1, 2, 3, 4, 5, 6, 7] rfl rfl rfl) (lw_V q959 q961 qs10 q113 q962) (hd_X1_tries) (Nat.le_of_ble_eq_true rfl) (Nat.le_of_ble_eq_true rfl) (va_recv hK hP (ci := 1) (q0 := 0) rfl rfl) rfl hl.1 rfl (Nat.le_of_ble_eq_true rfl) dX1_toSwish_18 hP hD hS (fun H locs hP hD hS => ?_)
      refine lv_iconst (v := (0 : Int32)) hx hb dX1_toSwish_21 (by decide) ?_
      refine lv_istore_n (lv' := [(3, .int (0 : Int32)), (0, .ref (ba 0)), (1, .int x1), (2, .int x2)]) hx hb dX1_toSwish_22 rfl hl (by decide) rfl (fun ls hl => ?_)
      obtain ⟨t13, v14, τ15, ν16, hg, hf⟩ := bq_b4s hf
      refine wk_bl_toSwish_L23 C hkc hks hamb hst hE hby hL _ _ _ _ _ _ _ _ _ _ _ _ hg hP hD hS ls (lv_sub hl [1, 2, 3, 0] rfl) ?_ ?_
      · intro ht_
        intro H locs hP hD hS ls hl
        have hf := bq_ip ht_ hf
        refine lv_iload_n hx hb dX1_toSwish_50 rfl (lv_at hl 0 rfl) ?_
        obtain ⟨rfl, rfl, rfl, rfl⟩ := bq_p4 hf
        exact bq_iretX C hr (by decide) (by decide) hP hD hS dX1_toSwish_51
      · intro ht_
        intro H locs hP hD hS ls hl
        have hf := bq_in (by rw [ht_]; decide) hf
        refine lv_iconst (v := (-1 : Int32)) hx hb dX1_toSwish_70 (by decide) ?_
        obtain ⟨rfl, rfl, rfl, rfl⟩ := bq_p4 hf
        exact bq_iretX C hr (by decide) (by decide) hP hD hS dX1_toSwish_71
    · have hf := bq_in ht_ hf
      obtain ⟨rfl, rfl, rfl, rfl⟩ := bq_p4 hf
      exact bq_prop C hex ht_ (by decide) (by decide)
  · have hf := bq_in ht_ hf
    obtain ⟨rfl, rfl, rfl, rfl⟩ := bq_p4 hf
    exact bq_prop C hex ht_ (by decide) (by decide)
set_option maxHeartbeats 4000000 in
theorem met_bl_by {l : Launch} {D : va_G} {am : bqAm} {X vE sE : Nat → Nat} {d : Nat → ClassId} {ba ca ia ka na ta : Nat → Nat} {dy fa : Option Nat} {β : bqS} {σ : bqS} {κ : bqS} {r : Int32} {x1 : Int32} {x2 : Int32} {x3 : Int32} (hok : bq_Ok am) (hamb : bq_Amb am X vE sE) (hf : bl_by β σ κ x1 x2 x3 = some r) : bq_M l yX1_by cX1_by 4 (some .int) 2 82 D bqCl (bqTy d) am [.ref (ba 0), .int x1, .int x2, .int x3] (List.flatten ([bbB d ba ca na ta ka ia β, stB d na σ, coB d ca dy fa κ] : List va_W)) (some (.int r)) (List.flatten ([bbB d ba ca na ta ka ia β, stB d na σ, coB d ca dy fa κ] : List va_W)) := by
  unfold bl_by at hf
  refine bq_of hok (by decide +kernel) (Nat.le_of_ble_eq_true rfl) ?_
  intro p e s m below meth c A ls C hr hP hD hS hl
  have C0 := C
  obtain ⟨hx, hb, hown, hts, hml, hlocks, hA, hK, hm, hRf, hRl, hok⟩ := C
  have C := C0
  have hkc := Nat.zero_le 0
  have hks := Nat.zero_le 0
  have hl : lv_has ls 4 [(0, .ref (ba 0)), (1, .int x1), (2, .int x2), (3, .int x3)] := hl
  refine lv_aload_n hx hb dX1_by_0 rfl (lv_at hl 0 rfl) ?_
  refine gX1_get (own := RX1) (fs := (bbF ba ca na ta ka ia β)) (v := .ref (ca 0)) hx hb hts hown hK hP (q0 := 0) rfl 0 (Nat.le_of_ble_eq_true rfl) (hts _ q755) rfl dX1_by_1 ?_
  refine lv_aload_n hx hb dX1_by_4 rfl (lv_at hl 0 rfl) ?_
  refine gX1_get (own := RX1) (fs := (bbF ba ca na ta ka ia β)) (v := .ref (na 0)) hx hb hts hown hK hP (q0 := 0) rfl 3 (Nat.le_of_ble_eq_true rfl) (hts _ q758) rfl dX1_by_5 ?_
  refine gX6_getN (own := RX1) (host := "BlueBag") (fs := (stF na σ)) (v := .ref (na 2)) hx hb hts hown hK hP (q0 := 6) rfl 1 (Nat.le_of_ble_eq_true rfl) (bq_nF hamb hm 16 rfl) rfl dX1_by_8 ?_
  refine lv_iload_n hx hb dX1_by_11 rfl (lv_at hl 2 rfl) ?_
  obtain ⟨h1, hf⟩ := bq_cks hf
  refine bq_ild (j := x2.toNatClampNeg) (f := σ 2) (q := 0) hx hb hK hP 8 rfl rfl h1 rfl dX1_by_12 ?_
  refine lv_aload_n hx hb dX1_by_13 rfl (lv_at hl 0 rfl) ?_
  refine gX1_get (own := RX1) (fs := (bbF ba ca na ta ka ia β)) (v := .ref (ba 3)) hx hb hts hown hK hP (q0 := 0) rfl 10 (Nat.le_of_ble_eq_true rfl) (hts _ q765) rfl dX1_by_14 ?_
  refine lv_iload_n hx hb dX1_by_17 rfl (lv_at hl 1 rfl) ?_
  obtain ⟨h2, hf⟩ := bq_cks hf
  refine bq_ild (j := x1.toNatClampNeg) (f := β 3) (q := 0) hx hb hK hP 3 rfl rfl h2 rfl dX1_by_18 ?_
  obtain ⟨v3, hg, hf⟩ := bq_b1s hf
  refine bq_cV (bs := [bbB d ba ca na ta ka ia β, stB d na σ, coB d ca dy fa κ]) (bc := [coB d ca dy fa κ]) (br := [bbB d ba ca na ta ka ia β, stB d na σ]) (bc' := [coB d ca dy fa κ]) (bs' := [bbB d ba ca na ta ka ia β, stB d na σ, coB d ca dy fa κ]) (As := [.int (σ 2 x2.toNatClampNeg), .int (β 3 x1.toNatClampNeg)]) (rest := []) (o := (some (.int v3))) C hkc hks (met_co_steps hok hamb hg) (bq_pm [2, 0, 1] rfl rfl rfl) (bq_pm [1, 2, 0] rfl rfl rfl) (lw_V q1431 q869 q870 q114 q871) (hd_X2_steps) (Nat.le_of_ble_eq_true rfl) (Nat.le_of_ble_eq_true rfl) (va_recv hK hP (ci := 2) (q0 := 11) rfl rfl) rfl hl.1 rfl (Nat.le_of_ble_eq_true rfl) dX1_by_19 hP hD hS (fun H locs hP hD hS => ?_)
  refine lv_aload_n hx hb dX1_by_22 rfl (lv_at hl 0 rfl) ?_
  refine gX1_get (own := RX1) (fs := (bbF ba ca na ta ka ia β)) (v := .ref (ba 2)) hx hb hts hown hK hP (q0 := 0) rfl 9 (Nat.le_of_ble_eq_true rfl) (hts _ q764) rfl dX1_by_23 ?_
  refine lv_iload_n hx hb dX1_by_26 rfl (lv_at hl 1 rfl) ?_
  refine lv_iconst (v := (1 : Int32)) hx hb dX1_by_27 (by decide) ?_
  refine lv_iadd hx hb dX1_by_28 ?_
  refine lv_bipush (v := (6 : Int32)) hx hb dX1_by_29 (by decide) ?_
  refine lv_ishl hx hb dX1_by_31 ?_
  refine lv_iload_n hx hb dX1_by_32 rfl (lv_at hl 3 rfl) ?_
  refine lv_iconst (v := (1 : Int32)) hx hb dX1_by_33 (by decide) ?_
  refine lv_iload_n hx hb dX1_by_34 rfl (lv_at hl 2 rfl) ?_
  refine lv_ishl hx hb dX1_by_35 ?_
  refine lv_ior hx hb dX1_by_36 ?_
  refine lv_iadd hx hb dX1_by_37 ?_
  obtain ⟨h4, hf⟩ := bq_cks hf
  refine bq_ild (j := ((((x1 + (1 : Int32)) <<< ((6 : Int32) &&& 31)) + (x3 ||| ((1 : Int32) <<< (x2 &&& 31)))).toNatClampNeg)) (f := β 2) (q := 0) hx hb hK hP 2 rfl rfl h4 rfl dX1_by_38 ?_
  refine lv_iadd hx hb dX1_by_39 ?_
  obtain rfl := Option.some.inj hf
  exact bq_iret C hr hP hD hS dX1_by_40
set_option maxHeartbeats 4000000 in
theorem wk_bl_sends_L2 {p : Program} {e : Env} {R : Room} {s : State} {m : MethodId} {args : Array Value} {below : List Frame} {meth : Method} {c : Code} {A : Nat → Prop} {kc ks : Nat} {Q : State → Prop} {l : Launch} {D : va_G} {am : bqAm} {X vE sE : Nat → Nat} {d : Nat → ClassId} {ba ca ia ka na ta : Nat → Nat} {dy fa : Option Nat} {L : Nat} {mc : Int32} {F : Nat} {E : bqE} (C : bq_C p R s m args meth c A D bqCl (bqTy d) am cX1_sends 6 RX1 3 105) (hkc : kc ≤ R.cells) (hks : ks ≤ R.slots) (hamb : bq_Amb am X vE sE) (hL : E.1 ≤ L ∧ L < 2147483648) {σ : bqS} {κ : bqS} :
    ∀ (k : Nat) (x1 : Int32) (x2 : Int32) (β : bqS) (β' : bqS) (H : Heap) (locs : List Loc), bl_sends_L2 F E σ κ k x1 x2 β = some β' → va_P D bqCl (List.flatten ([bbB d ba ca na ta ka ia β, stB d na σ, coB d ca dy fa κ, lsB d ca L mc E.1] : List va_W)) H → va_D A (List.flatten ([bbB d ba ca na ta ka ia β, stB d na σ, coB d ca dy fa κ, lsB d ca L mc E.1] : List va_W)) → va_S A s.heap H locs → ∀ ls : Array Slot, lv_has ls 6 [(0, .ref (ba 0)), (1, .int x1), (2, .int x2)] →
      (∀ (H : Heap) (locs : List Loc), va_P D bqCl (List.flatten ([bbB d ba ca na ta ka ia β', stB d na σ, coB d ca dy fa κ, lsB d ca L mc E.1] : List va_W)) H → va_D A (List.flatten ([bbB d ba ca na ta ka ia β', stB d na σ, coB d ca dy fa κ, lsB d ca L mc E.1] : List va_W)) → va_S A s.heap H locs → ∀ ls : Array Slot, lv_has ls 6 [(0, .ref (ba 0)), (1, .int x1)] → W p l e R s m args below meth c H locs kc ks Q (F0 m 30 ls [])) →
      W p l e R s m args below meth c H locs kc ks Q (F0 m 2 ls []) := by
  have C0 := C
  obtain ⟨hx, hb, hown, hts, hml, hlocks, hA, hK, hm, hRf, hRl, hok⟩ := C
  have C := C0
  intro k
  induction k with
  | zero => intro x1 x2 β β' H locs hf
            cases hf
  | succ k ih =>
    intro x1 x2 β β' H locs hf hP hD hS ls hl hk0
    rw [bl_sends_L2] at hf
    refine lv_iload_n hx hb dX1_sends_2 rfl (lv_at hl 2 rfl) ?_
    refine lv_iconst (v := (1 : Int32)) hx hb dX1_sends_3 (by decide) ?_
    refine lv_aload_n hx hb dX1_sends_4 rfl (lv_at hl 0 rfl) ?_
    obtain ⟨v1, hg, hf⟩ := bq_b1s hf
    refine bq_cV (bs := [bbB d ba ca na ta ka ia β, stB d na σ, coB d ca dy fa κ, lsB d ca L mc E.1]) (bc := [bbB d ba ca na ta ka ia β, coB d ca dy fa κ, lsB d ca L mc E.1]) (br := [stB d na σ]) (bc' := [bbB d ba ca na ta ka ia β, coB d ca dy fa κ, lsB d ca L mc E.1]) (bs' := [bbB d ba ca na ta ka ia β, stB d na σ, coB d ca dy fa κ, lsB d ca L mc E.1]) (As := []) (rest := [.int (1 : Int32), .int x2]) (o := (some (.int v1))) C hkc hks (met_bl_girls hok hamb hL hg) (bq_pm [0, 2, 3, 1] rfl rfl rfl) (bq_pm [0, 3, 1, 2] rfl rfl rfl) (lw_V q979 q981 qs12 q113 q982) (hd_X1_girls) (Nat.le_of_ble_eq_true rfl) (Nat.le_of_ble_eq_true rfl) (va_recv hK hP (ci := 1) (q0 := 0) rfl rfl) rfl hl.1 rfl (Nat.le_of_ble_eq_true rfl) dX1_sends_5 hP hD hS (fun H locs hP hD hS => ?_)
    refine lv_ishl hx hb dX1_sends_8 ?_
    refine lv_icmp_ge (tgt := 30) hx hb dX1_sends_9 (by decide) (fun c2 => ?_) (fun c2 => ?_)
    · have hf := bq_ip c2 hf
      obtain rfl := Option.some.inj hf
      exact hk0 _ _ hP hD hS ls (lv_sub hl [0, 1] rfl)
    · have hf := bq_in c2 hf
      refine lv_aload_n hx hb dX1_sends_12 rfl (lv_at hl 0 rfl) ?_
      refine gX1_get (own := RX1) (fs := (bbF ba ca na ta ka ia β)) (v := .ref (ba 2)) hx hb hts hown hK hP (q0 := 0) rfl 9 (Nat.le_of_ble_eq_true rfl) (hts _ q764) rfl dX1_sends_13 ?_
      refine lv_iload_n hx hb dX1_sends_16 rfl (lv_at hl 1 rfl) ?_
      refine lv_bipush (v := (6 : Int32)) hx hb dX1_sends_17 (by decide) ?_
      refine lv_ishl hx hb dX1_sends_19 ?_
      refine lv_iload_n hx hb dX1_sends_20 rfl (lv_at hl 2 rfl) ?_
      refine lv_iadd hx hb dX1_sends_21 ?_
      refine lv_iconst (v := (0 : Int32)) hx hb dX1_sends_22 (by decide) ?_
      obtain ⟨h3, hf⟩ := bq_cks hf
      obtain ⟨β4, eβ4, hf⟩ := bq_lts hf
      refine bq_ist (j := (((x1 <<< ((6 : Int32) &&& 31)) + x2).toNatClampNeg)) (f := β 2) (ws' := (List.flatten ([bbB d ba ca na ta ka ia (bq_up β 2 (((x1 <<< ((6 : Int32) &&& 31)) + x2).toNatClampNeg) (0 : Int32)), stB d na σ, coB d ca dy fa κ, lsB d ca L mc E.1] : List va_W))) hx hb hK hP hD hS 2 rfl rfl h3 rfl rfl dX1_sends_23 (fun H locs hP hD hS => ?_)
      rw [← eβ4] at hP hD
      obtain ⟨v5, ev5, hf⟩ := bq_lts hf
      refine lv_iinc (v := v5) (lv' := [(2, .int v5), (0, .ref (ba 0)), (1, .int x1)]) hx hb dX1_sends_24 hl (k := 2) rfl (bq_inc (by decide) ev5) (by decide) rfl (fun ls hl => ?_)
      refine lv_goto (tgt := 2) hx hb dX1_sends_27 (by decide) ?_
      exact ih _ _ _ _ _ _ hf hP hD hS ls (lv_sub hl [1, 2, 0] rfl) hk0
set_option maxHeartbeats 4000000 in
theorem wk_bl_sends_L58 {p : Program} {e : Env} {R : Room} {s : State} {m : MethodId} {args : Array Value} {below : List Frame} {meth : Method} {c : Code} {A : Nat → Prop} {kc ks : Nat} {Q : State → Prop} {l : Launch} {D : va_G} {am : bqAm} {X vE sE : Nat → Nat} {d : Nat → ClassId} {ba ca ia ka na ta : Nat → Nat} {dy fa : Option Nat} {L : Nat} {mc : Int32} {F : Nat} {E : bqE} (C : bq_C p R s m args meth c A D bqCl (bqTy d) am cX1_sends 6 RX1 3 105) (hkc : kc ≤ R.cells) (hks : ks ≤ R.slots) (hamb : bq_Amb am X vE sE) (hL : E.1 ≤ L ∧ L < 2147483648) {β : bqS} {σ : bqS} {κ : bqS} :
    ∀ (k : Nat) (x2 : Int32) (x3 : Int32) (x4 : Int32) (x5 : Int32) (y4 : Int32) (H : Heap) (locs : List Loc), bl_sends_L58 F E β σ κ k x2 x3 x4 x5 = some y4 → va_P D bqCl (List.flatten ([bbB d ba ca na ta ka ia β, stB d na σ, coB d ca dy fa κ, lsB d ca L mc E.1] : List va_W)) H → va_D A (List.flatten ([bbB d ba ca na ta ka ia β, stB d na σ, coB d ca dy fa κ, lsB d ca L mc E.1] : List va_W)) → va_S A s.heap H locs → ∀ ls : Array Slot, lv_has ls 6 [(0, .ref (ba 0)), (2, .int x2), (3, .int x3), (4, .int x4), (5, .int x5)] →
      (∀ (H : Heap) (locs : List Loc), va_P D bqCl (List.flatten ([bbB d ba ca na ta ka ia β, stB d na σ, coB d ca dy fa κ, lsB d ca L mc E.1] : List va_W)) H → va_D A (List.flatten ([bbB d ba ca na ta ka ia β, stB d na σ, coB d ca dy fa κ, lsB d ca L mc E.1] : List va_W)) → va_S A s.heap H locs → ∀ ls : Array Slot, lv_has ls 6 [(0, .ref (ba 0)), (2, .int x2), (3, .int x3), (4, .int y4)] → W p l e R s m args below meth c H locs kc ks Q (F0 m 97 ls [])) →
      W p l e R s m args below meth c H locs kc ks Q (F0 m 58 ls []) := by
  have C0 := C
  obtain ⟨hx, hb, hown, hts, hml, hlocks, hA, hK, hm, hRf, hRl, hok⟩ := C
  have C := C0
  intro k
  induction k with
  | zero => intro x2 x3 x4 x5 y4 H locs hf
            cases hf
  | succ k ih =>
    intro x2 x3 x4 x5 y4 H locs hf hP hD hS ls hl hk0
    rw [bl_sends_L58] at hf
    refine lv_iload hx hb dX1_sends_58 (lv_at hl 4 rfl) ?_
    refine lv_aload_n hx hb dX1_sends_60 rfl (lv_at hl 0 rfl) ?_
    obtain ⟨v11, hg, hf⟩ := bq_b1s hf
    refine bq_cV (bs := [bbB d ba ca na ta ka ia β, stB d na σ, coB d ca dy fa κ, lsB d ca L mc E.1]) (bc := [bbB d ba ca na ta ka ia β, coB d ca dy fa κ, lsB d ca L mc E.1]) (br := [stB d na σ]) (bc' := [bbB d ba ca na ta ka ia β, coB d ca dy fa κ, lsB d ca L mc E.1]) (bs' := [bbB d ba ca na ta ka ia β, stB d na σ, coB d ca dy fa κ, lsB d ca L mc E.1]) (As := []) (rest := [.int x5]) (o := (some (.int v11))) C hkc hks (met_bl_girls hok hamb hL hg) (bq_pm [0, 2, 3, 1] rfl rfl rfl) (bq_pm [0, 3, 1, 2] rfl rfl rfl) (lw_V q979 q981 qs12 q113 q982) (hd_X1_girls) (Nat.le_of_ble_eq_true rfl) (Nat.le_of_ble_eq_true rfl) (va_recv hK hP (ci := 1) (q0 := 0) rfl rfl) rfl hl.1 rfl (Nat.le_of_ble_eq_true rfl) dX1_sends_61 hP hD hS (fun H locs hP hD hS => ?_)
    refine lv_icmp_ge (tgt := 97) hx hb dX1_sends_64 (by decide) (fun c12 => ?_) (fun c12 => ?_)
    · have hf := bq_ip c12 hf
      obtain rfl := Option.some.inj hf
      exact hk0 _ _ hP hD hS ls (lv_sub hl [0, 1, 2, 3] rfl)
    · have hf := bq_in c12 hf
      refine lv_iload_n hx hb dX1_sends_67 rfl (lv_at hl 2 rfl) ?_
      refine lv_iload hx hb dX1_sends_68 (lv_at hl 4 rfl) ?_
      refine lv_ishr hx hb dX1_sends_70 ?_
      refine lv_iconst (v := (1 : Int32)) hx hb dX1_sends_71 (by decide) ?_
      refine lv_iand hx hb dX1_sends_72 ?_
      refine lv_if_ne (tgt := 91) hx hb dX1_sends_73 (by decide) (fun c13 => ?_) (fun c13 => ?_)
      · have hf := bq_in c13 hf
        obtain ⟨v14, ev14, hf⟩ := bq_lts hf
        refine lv_iinc (v := v14) (lv' := [(5, .int v14), (0, .ref (ba 0)), (2, .int x2), (3, .int x3), (4, .int x4)]) hx hb dX1_sends_91 hl (k := 4) rfl (bq_inc (by decide) ev14) (by decide) rfl (fun ls hl => ?_)
        refine lv_goto (tgt := 58) hx hb dX1_sends_94 (by decide) ?_
        exact ih _ _ _ _ _ _ _ hf hP hD hS ls (lv_sub hl [1, 2, 3, 4, 0] rfl) hk0
      · have hf := bq_ip c13 hf
        refine lv_iload hx hb dX1_sends_76 (lv_at hl 3 rfl) ?_
        refine lv_aload_n hx hb dX1_sends_78 rfl (lv_at hl 0 rfl) ?_
        refine lv_iload_n hx hb dX1_sends_79 rfl (lv_at hl 1 rfl) ?_
        refine lv_iload hx hb dX1_sends_80 (lv_at hl 4 rfl) ?_
        refine lv_iload_n hx hb dX1_sends_82 rfl (lv_at hl 2 rfl) ?_
        obtain ⟨v15, hg, hf⟩ := bq_b1s hf
        refine bq_cV (bs := [bbB d ba ca na ta ka ia β, stB d na σ, coB d ca dy fa κ, lsB d ca L mc E.1]) (bc := [bbB d ba ca na ta ka ia β, stB d na σ, coB d ca dy fa κ]) (br := [lsB d ca L mc E.1]) (bc' := [bbB d ba ca na ta ka ia β, stB d na σ, coB d ca dy fa κ]) (bs' := [bbB d ba ca na ta ka ia β, stB d na σ, coB d ca dy fa κ, lsB d ca L mc E.1]) (As := [.int x2, .int x5, .int x3]) (rest := [.int x4]) (o := (some (.int v15))) C hkc hks (met_bl_by hok hamb hg) (bq_pm [0, 1, 2, 3] rfl rfl rfl) (bq_pm [0, 1, 2, 3] rfl rfl rfl) (lw_V q1570 q1572 qs40 q113 q1573) (hd_X1_by) (Nat.le_of_ble_eq_true rfl) (Nat.le_of_ble_eq_true rfl) (va_recv hK hP (ci := 1) (q0 := 0) rfl rfl) rfl hl.1 rfl (Nat.le_of_ble_eq_true rfl) dX1_sends_83 hP hD hS (fun H locs hP hD hS => ?_)
        refine va_mmin hx hb (hml.trans hl.1.symm) hown (hts _ q948) (hts _ q298) (hts _ q127) (hts _ q299) (Nat.le_trans (Nat.le_of_ble_eq_true rfl) hRf) (Nat.le_trans (Nat.le_of_ble_eq_true rfl) hRl) hkc hks dX1_sends_86 ?_
        obtain ⟨v16, ev16, hf⟩ := bq_lts hf
        refine bq_tope ev16 ?_
        refine lv_istore (lv' := [(4, .int v16), (0, .ref (ba 0)), (2, .int x2), (3, .int x3), (5, .int x5)]) hx hb dX1_sends_89 hl (by decide) rfl (fun ls hl => ?_)
        obtain ⟨v17, ev17, hf⟩ := bq_lts hf
        refine lv_iinc (v := v17) (lv' := [(5, .int v17), (4, .int v16), (0, .ref (ba 0)), (2, .int x2), (3, .int x3)]) hx hb dX1_sends_91 hl (k := 4) rfl (bq_inc (by decide) ev17) (by decide) rfl (fun ls hl => ?_)
        refine lv_goto (tgt := 58) hx hb dX1_sends_94 (by decide) ?_
        exact ih _ _ _ _ _ _ _ hf hP hD hS ls (lv_sub hl [2, 3, 4, 1, 0] rfl) hk0
set_option maxHeartbeats 4000000 in
theorem wk_bl_sends_L40 {p : Program} {e : Env} {R : Room} {s : State} {m : MethodId} {args : Array Value} {below : List Frame} {meth : Method} {c : Code} {A : Nat → Prop} {kc ks : Nat} {Q : State → Prop} {l : Launch} {D : va_G} {am : bqAm} {X vE sE : Nat → Nat} {d : Nat → ClassId} {ba ca ia ka na ta : Nat → Nat} {dy fa : Option Nat} {L : Nat} {mc : Int32} {F : Nat} {E : bqE} (C : bq_C p R s m args meth c A D bqCl (bqTy d) am cX1_sends 6 RX1 3 105) (hkc : kc ≤ R.cells) (hks : ks ≤ R.slots) (hamb : bq_Amb am X vE sE) (hL : E.1 ≤ L ∧ L < 2147483648) {σ : bqS} {κ : bqS} :
    ∀ (k : Nat) (x2 : Int32) (x3 : Int32) (β : bqS) (β' : bqS) (H : Heap) (locs : List Loc), bl_sends_L40 F E σ κ k x2 x3 β = some β' → va_P D bqCl (List.flatten ([bbB d ba ca na ta ka ia β, stB d na σ, coB d ca dy fa κ, lsB d ca L mc E.1] : List va_W)) H → va_D A (List.flatten ([bbB d ba ca na ta ka ia β, stB d na σ, coB d ca dy fa κ, lsB d ca L mc E.1] : List va_W)) → va_S A s.heap H locs → ∀ ls : Array Slot, lv_has ls 6 [(0, .ref (ba 0)), (2, .int x2), (3, .int x3)] →
      (∀ (H : Heap) (locs : List Loc), va_P D bqCl (List.flatten ([bbB d ba ca na ta ka ia β', stB d na σ, coB d ca dy fa κ, lsB d ca L mc E.1] : List va_W)) H → va_D A (List.flatten ([bbB d ba ca na ta ka ia β', stB d na σ, coB d ca dy fa κ, lsB d ca L mc E.1] : List va_W)) → va_S A s.heap H locs → ∀ ls : Array Slot, lv_has ls 6 [(0, .ref (ba 0)), (2, .int x2)] → W p l e R s m args below meth c H locs kc ks Q (F0 m 116 ls [])) →
      W p l e R s m args below meth c H locs kc ks Q (F0 m 40 ls []) := by
  have C0 := C
  obtain ⟨hx, hb, hown, hts, hml, hlocks, hA, hK, hm, hRf, hRl, hok⟩ := C
  have C := C0
  intro k
  induction k with
  | zero => intro x2 x3 β β' H locs hf
            cases hf
  | succ k ih =>
    intro x2 x3 β β' H locs hf hP hD hS ls hl hk0
    rw [bl_sends_L40] at hf
    refine lv_iload_n hx hb dX1_sends_40 rfl (lv_at hl 2 rfl) ?_
    refine lv_iconst (v := (1 : Int32)) hx hb dX1_sends_41 (by decide) ?_
    refine lv_aload_n hx hb dX1_sends_42 rfl (lv_at hl 0 rfl) ?_
    obtain ⟨v9, hg, hf⟩ := bq_b1s hf
    refine bq_cV (bs := [bbB d ba ca na ta ka ia β, stB d na σ, coB d ca dy fa κ, lsB d ca L mc E.1]) (bc := [bbB d ba ca na ta ka ia β, coB d ca dy fa κ, lsB d ca L mc E.1]) (br := [stB d na σ]) (bc' := [bbB d ba ca na ta ka ia β, coB d ca dy fa κ, lsB d ca L mc E.1]) (bs' := [bbB d ba ca na ta ka ia β, stB d na σ, coB d ca dy fa κ, lsB d ca L mc E.1]) (As := []) (rest := [.int (1 : Int32), .int x3]) (o := (some (.int v9))) C hkc hks (met_bl_girls hok hamb hL hg) (bq_pm [0, 2, 3, 1] rfl rfl rfl) (bq_pm [0, 3, 1, 2] rfl rfl rfl) (lw_V q979 q981 qs12 q113 q982) (hd_X1_girls) (Nat.le_of_ble_eq_true rfl) (Nat.le_of_ble_eq_true rfl) (va_recv hK hP (ci := 1) (q0 := 0) rfl rfl) rfl hl.1 rfl (Nat.le_of_ble_eq_true rfl) dX1_sends_43 hP hD hS (fun H locs hP hD hS => ?_)
    refine lv_ishl hx hb dX1_sends_46 ?_
    refine lv_icmp_ge (tgt := 116) hx hb dX1_sends_47 (by decide) (fun c10 => ?_) (fun c10 => ?_)
    · have hf := bq_ip c10 hf
      obtain rfl := Option.some.inj hf
      exact hk0 _ _ hP hD hS ls (lv_sub hl [0, 1] rfl)
    · have hf := bq_in c10 hf
      refine lv_sipush (v := (9999 : Int32)) hx hb dX1_sends_50 (by decide) ?_
      refine lv_istore (lv' := [(4, .int (9999 : Int32)), (0, .ref (ba 0)), (2, .int x2), (3, .int x3)]) hx hb dX1_sends_53 hl (by decide) rfl (fun ls hl => ?_)
      refine lv_iconst (v := (0 : Int32)) hx hb dX1_sends_55 (by decide) ?_
      refine lv_istore (lv' := [(5, .int (0 : Int32)), (4, .int (9999 : Int32)), (0, .ref (ba 0)), (2, .int x2), (3, .int x3)]) hx hb dX1_sends_56 hl (by decide) rfl (fun ls hl => ?_)
      obtain ⟨v18, hg, hf⟩ := bq_b1s hf
      refine wk_bl_sends_L58 C hkc hks hamb hL _ _ _ _ _ _ _ _ hg hP hD hS ls (lv_sub hl [2, 3, 4, 1, 0] rfl) ?_
      · intro H locs hP hD hS ls hl
        refine lv_aload_n hx hb dX1_sends_97 rfl (lv_at hl 0 rfl) ?_
        refine gX1_get (own := RX1) (fs := (bbF ba ca na ta ka ia β)) (v := .ref (ba 2)) hx hb hts hown hK hP (q0 := 0) rfl 9 (Nat.le_of_ble_eq_true rfl) (hts _ q764) rfl dX1_sends_98 ?_
        refine lv_iload_n hx hb dX1_sends_101 rfl (lv_at hl 1 rfl) ?_
        refine lv_bipush (v := (6 : Int32)) hx hb dX1_sends_102 (by decide) ?_
        refine lv_ishl hx hb dX1_sends_104 ?_
        refine lv_iload_n hx hb dX1_sends_105 rfl (lv_at hl 2 rfl) ?_
        refine lv_iadd hx hb dX1_sends_106 ?_
        refine lv_iload hx hb dX1_sends_107 (lv_at hl 3 rfl) ?_
        obtain ⟨h19, hf⟩ := bq_cks hf
        obtain ⟨β20, eβ20, hf⟩ := bq_lts hf
        refine bq_ist (j := (((x2 <<< ((6 : Int32) &&& 31)) + x3).toNatClampNeg)) (f := β 2) (ws' := (List.flatten ([bbB d ba ca na ta ka ia (bq_up β 2 (((x2 <<< ((6 : Int32) &&& 31)) + x3).toNatClampNeg) v18), stB d na σ, coB d ca dy fa κ, lsB d ca L mc E.1] : List va_W))) hx hb hK hP hD hS 2 rfl rfl h19 rfl rfl dX1_sends_109 (fun H locs hP hD hS => ?_)
        rw [← eβ20] at hP hD
        obtain ⟨v21, ev21, hf⟩ := bq_lts hf
        refine lv_iinc (v := v21) (lv' := [(3, .int v21), (0, .ref (ba 0)), (2, .int x2), (4, .int v18)]) hx hb dX1_sends_110 hl (k := 2) rfl (bq_inc (by decide) ev21) (by decide) rfl (fun ls hl => ?_)
        refine lv_goto (tgt := 40) hx hb dX1_sends_113 (by decide) ?_
        exact ih _ _ _ _ _ _ hf hP hD hS ls (lv_sub hl [1, 2, 0] rfl) hk0
set_option maxHeartbeats 4000000 in
theorem wk_bl_sends_L34 {p : Program} {e : Env} {R : Room} {s : State} {m : MethodId} {args : Array Value} {below : List Frame} {meth : Method} {c : Code} {A : Nat → Prop} {kc ks : Nat} {Q : State → Prop} {l : Launch} {D : va_G} {am : bqAm} {X vE sE : Nat → Nat} {d : Nat → ClassId} {ba ca ia ka na ta : Nat → Nat} {dy fa : Option Nat} {L : Nat} {mc : Int32} {F : Nat} {E : bqE} (C : bq_C p R s m args meth c A D bqCl (bqTy d) am cX1_sends 6 RX1 3 105) (hkc : kc ≤ R.cells) (hks : ks ≤ R.slots) (hamb : bq_Amb am X vE sE) (hL : E.1 ≤ L ∧ L < 2147483648) {σ : bqS} {κ : bqS} :
    ∀ (k : Nat) (x2 : Int32) (β : bqS) (β' : bqS) (H : Heap) (locs : List Loc), bl_sends_L34 F E σ κ k x2 β = some β' → va_P D bqCl (List.flatten ([bbB d ba ca na ta ka ia β, stB d na σ, coB d ca dy fa κ, lsB d ca L mc E.1] : List va_W)) H → va_D A (List.flatten ([bbB d ba ca na ta ka ia β, stB d na σ, coB d ca dy fa κ, lsB d ca L mc E.1] : List va_W)) → va_S A s.heap H locs → ∀ ls : Array Slot, lv_has ls 6 [(0, .ref (ba 0)), (2, .int x2)] →
      (∀ (H : Heap) (locs : List Loc), va_P D bqCl (List.flatten ([bbB d ba ca na ta ka ia β', stB d na σ, coB d ca dy fa κ, lsB d ca L mc E.1] : List va_W)) H → va_D A (List.flatten ([bbB d ba ca na ta ka ia β', stB d na σ, coB d ca dy fa κ, lsB d ca L mc E.1] : List va_W)) → va_S A s.heap H locs → ∀ ls : Array Slot, lv_has ls 6 [] → W p l e R s m args below meth c H locs kc ks Q (F0 m 122 ls [])) →
      W p l e R s m args below meth c H locs kc ks Q (F0 m 34 ls []) := by
  have C0 := C
  obtain ⟨hx, hb, hown, hts, hml, hlocks, hA, hK, hm, hRf, hRl, hok⟩ := C
  have C := C0
  intro k
  induction k with
  | zero => intro x2 β β' H locs hf
            cases hf
  | succ k ih =>
    intro x2 β β' H locs hf hP hD hS ls hl hk0
    rw [bl_sends_L34] at hf
    refine lv_iload_n hx hb dX1_sends_34 rfl (lv_at hl 1 rfl) ?_
    refine lv_if_lt (tgt := 122) hx hb dX1_sends_35 (by decide) (fun c8 => ?_) (fun c8 => ?_)
    · have hf := bq_ip c8 hf
      obtain rfl := Option.some.inj hf
      exact hk0 _ _ hP hD hS ls (lv_sub hl [] rfl)
    · have hf := bq_in c8 hf
      refine lv_iconst (v := (0 : Int32)) hx hb dX1_sends_38 (by decide) ?_
      refine lv_istore_n (lv' := [(3, .int (0 : Int32)), (0, .ref (ba 0)), (2, .int x2)]) hx hb dX1_sends_39 rfl hl (by decide) rfl (fun ls hl => ?_)
      obtain ⟨β22, hg, hf⟩ := bq_b1s hf
      refine wk_bl_sends_L40 C hkc hks hamb hL _ _ _ _ _ _ _ hg hP hD hS ls (lv_sub hl [1, 2, 0] rfl) ?_
      · intro H locs hP hD hS ls hl
        obtain ⟨v23, ev23, hf⟩ := bq_lts hf
        refine lv_iinc (v := v23) (lv' := [(2, .int v23), (0, .ref (ba 0))]) hx hb dX1_sends_116 hl (k := 1) rfl (bq_inc (by decide) ev23) (by decide) rfl (fun ls hl => ?_)
        refine lv_goto (tgt := 34) hx hb dX1_sends_119 (by decide) ?_
        exact ih _ _ _ _ _ hf hP hD hS ls (lv_sub hl [1, 0] rfl) hk0
set_option maxHeartbeats 4000000 in
theorem met_bl_sends {l : Launch} {D : va_G} {am : bqAm} {X vE sE : Nat → Nat} {d : Nat → ClassId} {ba ca ia ka na ta : Nat → Nat} {dy fa : Option Nat} {L : Nat} {mc : Int32} {F : Nat} {E : bqE} {β : bqS} {σ : bqS} {κ : bqS} {β' : bqS} {x1 : Int32} (hok : bq_Ok am) (hamb : bq_Amb am X vE sE) (hL : E.1 ≤ L ∧ L < 2147483648) (hf : bl_sends F E β σ κ x1 = some β') : bq_M l yX1_sends cX1_sends 6 none 3 105 D bqCl (bqTy d) am [.ref (ba 0), .int x1] (List.flatten ([bbB d ba ca na ta ka ia β, stB d na σ, coB d ca dy fa κ, lsB d ca L mc E.1] : List va_W)) none (List.flatten ([bbB d ba ca na ta ka ia β', stB d na σ, coB d ca dy fa κ, lsB d ca L mc E.1] : List va_W)) := by
  unfold bl_sends at hf
  refine bq_of hok (by decide +kernel) (Nat.le_of_ble_eq_true rfl) ?_
  intro p e s m below meth c A ls C hr hP hD hS hl
  have C0 := C
  obtain ⟨hx, hb, hown, hts, hml, hlocks, hA, hK, hm, hRf, hRl, hok⟩ := C
  have C := C0
  have hkc := Nat.zero_le 0
  have hks := Nat.zero_le 0
  have hl : lv_has ls 6 [(0, .ref (ba 0)), (1, .int x1)] := hl
  refine lv_iconst (v := (0 : Int32)) hx hb dX1_sends_0 (by decide) ?_
  refine lv_istore_n (lv' := [(2, .int (0 : Int32)), (0, .ref (ba 0)), (1, .int x1)]) hx hb dX1_sends_1 rfl hl (by decide) rfl (fun ls hl => ?_)
  obtain ⟨β6, hg, hf⟩ := bq_b1s hf
  refine wk_bl_sends_L2 C hkc hks hamb hL _ _ _ _ _ _ _ hg hP hD hS ls (lv_sub hl [1, 2, 0] rfl) ?_
  · intro H locs hP hD hS ls hl
    refine lv_iload_n hx hb dX1_sends_30 rfl (lv_at hl 1 rfl) ?_
    refine lv_iconst (v := (1 : Int32)) hx hb dX1_sends_31 (by decide) ?_
    refine lv_isub hx hb dX1_sends_32 ?_
    obtain ⟨v7, ev7, hf⟩ := bq_lts hf
    refine bq_tope ev7 ?_
    refine lv_istore_n (lv' := [(2, .int v7), (0, .ref (ba 0)), (1, .int x1)]) hx hb dX1_sends_33 rfl hl (by decide) rfl (fun ls hl => ?_)
    obtain ⟨β24, hg, hf⟩ := bq_b1s hf
    refine wk_bl_sends_L34 C hkc hks hamb hL _ _ _ _ _ _ hg hP hD hS ls (lv_sub hl [1, 0] rfl) ?_
    · intro H locs hP hD hS ls hl
      obtain rfl := Option.some.inj hf
      exact bq_vret C hr hP hD hS dX1_sends_122
set_option maxHeartbeats 4000000 in
theorem wk_bl_sent_L72 {p : Program} {e : Env} {R : Room} {s : State} {m : MethodId} {args : Array Value} {below : List Frame} {meth : Method} {c : Code} {A : Nat → Prop} {kc ks : Nat} {Q : State → Prop} {l : Launch} {D : va_G} {am : bqAm} {X vE sE : Nat → Nat} {d : Nat → ClassId} {ba ca ia ka na ta : Nat → Nat} {dy fa : Option Nat} {L : Nat} {mc : Int32} {F : Nat} {E : bqE} (C : bq_C p R s m args meth c A D bqCl (bqTy d) am cX1_sent 7 RX1 7 130) (hkc : kc ≤ R.cells) (hks : ks ≤ R.slots) (hamb : bq_Amb am X vE sE) (hst : l.stackTraces = false) (hL : E.1 ≤ L ∧ L < 2147483648) {σ : bqS} {κ : bqS} {x2 : Int32} :
    ∀ (k : Nat) (x1 : Int32) (x3 : Int32) (x4 : Int32) (β : bqS) (y3 : Int32) (β' : bqS) (H : Heap) (locs : List Loc), bl_sent_L72 F E σ κ k x1 x3 x4 β = some (y3, β') → va_P D bqCl (List.flatten ([bbB d ba ca na ta ka ia β, stB d na σ, coB d ca dy fa κ, lsB d ca L mc E.1] : List va_W)) H → va_D A (List.flatten ([bbB d ba ca na ta ka ia β, stB d na σ, coB d ca dy fa κ, lsB d ca L mc E.1] : List va_W)) → va_S A s.heap H locs → ∀ ls : Array Slot, lv_has ls 7 [(0, .ref (ba 0)), (1, .int x1), (2, .int x2), (3, .int x3), (4, .int x4)] →
      (∀ (H : Heap) (locs : List Loc), va_P D bqCl (List.flatten ([bbB d ba ca na ta ka ia β', stB d na σ, coB d ca dy fa κ, lsB d ca L mc E.1] : List va_W)) H → va_D A (List.flatten ([bbB d ba ca na ta ka ia β', stB d na σ, coB d ca dy fa κ, lsB d ca L mc E.1] : List va_W)) → va_S A s.heap H locs → ∀ ls : Array Slot, lv_has ls 7 [(0, .ref (ba 0)), (2, .int x2), (3, .int y3)] → W p l e R s m args below meth c H locs kc ks Q (F0 m 110 ls [])) →
      W p l e R s m args below meth c H locs kc ks Q (F0 m 72 ls []) := by
  have C0 := C
  obtain ⟨hx, hb, hown, hts, hml, hlocks, hA, hK, hm, hRf, hRl, hok⟩ := C
  have C := C0
  intro k
  induction k with
  | zero => intro x1 x3 x4 β y3 β' H locs hf
            cases hf
  | succ k ih =>
    intro x1 x3 x4 β y3 β' H locs hf hP hD hS ls hl hk0
    rw [bl_sent_L72] at hf
    refine lv_iload hx hb dX1_sent_72 (lv_at hl 4 rfl) ?_
    refine lv_aload_n hx hb dX1_sent_74 rfl (lv_at hl 0 rfl) ?_
    obtain ⟨v5, hg, hf⟩ := bq_b1s hf
    refine bq_cV (bs := [bbB d ba ca na ta ka ia β, stB d na σ, coB d ca dy fa κ, lsB d ca L mc E.1]) (bc := [bbB d ba ca na ta ka ia β, coB d ca dy fa κ]) (br := [stB d na σ, lsB d ca L mc E.1]) (bc' := [bbB d ba ca na ta ka ia β, coB d ca dy fa κ]) (bs' := [bbB d ba ca na ta ka ia β, stB d na σ, coB d ca dy fa κ, lsB d ca L mc E.1]) (As := []) (rest := [.int x4]) (o := (some (.int v5))) C hkc hks (met_bl_cells hok hamb hg) (bq_pm [0, 2, 1, 3] rfl rfl rfl) (bq_pm [0, 2, 1, 3] rfl rfl rfl) (lw_V q990 q992 qs13 q113 q993) (hd_X1_cells) (Nat.le_of_ble_eq_true rfl) (Nat.le_of_ble_eq_true rfl) (va_recv hK hP (ci := 1) (q0 := 0) rfl rfl) rfl hl.1 rfl (Nat.le_of_ble_eq_true rfl) dX1_sent_75 hP hD hS (fun H locs hP hD hS => ?_)
    refine lv_icmp_ge (tgt := 110) hx hb dX1_sent_78 (by decide) (fun c6 => ?_) (fun c6 => ?_)
    · have hf := bq_ip c6 hf
      obtain ⟨rfl, rfl⟩ := bq_p2 hf
      exact hk0 _ _ hP hD hS ls (lv_sub hl [0, 2, 3] rfl)
    · have hf := bq_in c6 hf
      refine lv_iload_n hx hb dX1_sent_81 rfl (lv_at hl 1 rfl) ?_
      refine lv_iload hx hb dX1_sent_82 (lv_at hl 4 rfl) ?_
      refine lv_ishr hx hb dX1_sent_84 ?_
      refine lv_iconst (v := (1 : Int32)) hx hb dX1_sent_85 (by decide) ?_
      refine lv_iand hx hb dX1_sent_86 ?_
      refine lv_if_ne (tgt := 93) hx hb dX1_sent_87 (by decide) (fun c7 => ?_) (fun c7 => ?_)
      · have hf := bq_in c7 hf
        refine lv_aload_n hx hb dX1_sent_93 rfl (lv_at hl 0 rfl) ?_
        refine gX1_get (own := RX1) (fs := (bbF ba ca na ta ka ia β)) (v := .ref (ba 3)) hx hb hts hown hK hP (q0 := 0) rfl 10 (Nat.le_of_ble_eq_true rfl) (hts _ q765) rfl dX1_sent_94 ?_
        refine lv_iload_n hx hb dX1_sent_97 rfl (lv_at hl 3 rfl) ?_
        refine lv_iload hx hb dX1_sent_98 (lv_at hl 4 rfl) ?_
        obtain ⟨h8, hf⟩ := bq_cks hf
        obtain ⟨β9, eβ9, hf⟩ := bq_lts hf
        refine bq_ist (j := x3.toNatClampNeg) (f := β 3) (ws' := (List.flatten ([bbB d ba ca na ta ka ia (bq_up β 3 x3.toNatClampNeg x4), stB d na σ, coB d ca dy fa κ, lsB d ca L mc E.1] : List va_W))) hx hb hK hP hD hS 3 rfl rfl h8 rfl rfl dX1_sent_100 (fun H locs hP hD hS => ?_)
        rw [← eβ9] at hP hD
        obtain ⟨v10, ev10, hf⟩ := bq_lts hf
        refine lv_iinc (v := v10) (lv' := [(3, .int v10), (0, .ref (ba 0)), (1, .int x1), (2, .int x2), (4, .int x4)]) hx hb dX1_sent_101 hl (k := 3) rfl (bq_inc (by decide) ev10) (by decide) rfl (fun ls hl => ?_)
        obtain ⟨v11, ev11, hf⟩ := bq_lts hf
        refine lv_iinc (v := v11) (lv' := [(4, .int v11), (3, .int v10), (0, .ref (ba 0)), (1, .int x1), (2, .int x2)]) hx hb dX1_sent_104 hl (k := 4) rfl (bq_inc (by decide) ev11) (by decide) rfl (fun ls hl => ?_)
        refine lv_goto (tgt := 72) hx hb dX1_sent_107 (by decide) ?_
        exact ih _ _ _ _ _ _ _ _ hf hP hD hS ls (lv_sub hl [2, 3, 4, 1, 0] rfl) hk0
      · have hf := bq_ip c7 hf
        refine lv_goto (tgt := 104) hx hb dX1_sent_90 (by decide) ?_
        obtain ⟨v12, ev12, hf⟩ := bq_lts hf
        refine lv_iinc (v := v12) (lv' := [(4, .int v12), (0, .ref (ba 0)), (1, .int x1), (2, .int x2), (3, .int x3)]) hx hb dX1_sent_104 hl (k := 4) rfl (bq_inc (by decide) ev12) (by decide) rfl (fun ls hl => ?_)
        refine lv_goto (tgt := 72) hx hb dX1_sent_107 (by decide) ?_
        exact ih _ _ _ _ _ _ _ _ hf hP hD hS ls (lv_sub hl [1, 2, 3, 4, 0] rfl) hk0
set_option maxHeartbeats 4000000 in
theorem wk_bl_sent_L147 {p : Program} {e : Env} {R : Room} {s : State} {m : MethodId} {args : Array Value} {below : List Frame} {meth : Method} {c : Code} {A : Nat → Prop} {kc ks : Nat} {Q : State → Prop} {l : Launch} {D : va_G} {am : bqAm} {X vE sE : Nat → Nat} {d : Nat → ClassId} {ba ca ia ka na ta : Nat → Nat} {dy fa : Option Nat} {L : Nat} {mc : Int32} {F : Nat} {E : bqE} (C : bq_C p R s m args meth c A D bqCl (bqTy d) am cX1_sent 7 RX1 7 130) (hkc : kc ≤ R.cells) (hks : ks ≤ R.slots) (hamb : bq_Amb am X vE sE) (hst : l.stackTraces = false) (hL : E.1 ≤ L ∧ L < 2147483648) {β : bqS} {σ : bqS} {κ : bqS} {x2 : Int32} :
    ∀ (k : Nat) (x4 : Int32) (x5 : Int32) (x6 : Int32) (y6 : Int32) (H : Heap) (locs : List Loc), bl_sent_L147 F E β σ κ k x4 x5 x6 = some y6 → va_P D bqCl (List.flatten ([bbB d ba ca na ta ka ia β, stB d na σ, coB d ca dy fa κ, lsB d ca L mc E.1] : List va_W)) H → va_D A (List.flatten ([bbB d ba ca na ta ka ia β, stB d na σ, coB d ca dy fa κ, lsB d ca L mc E.1] : List va_W)) → va_S A s.heap H locs → ∀ ls : Array Slot, lv_has ls 7 [(0, .ref (ba 0)), (2, .int x2), (4, .int x4), (5, .int x5), (6, .int x6)] →
      (∀ (H : Heap) (locs : List Loc), va_P D bqCl (List.flatten ([bbB d ba ca na ta ka ia β, stB d na σ, coB d ca dy fa κ, lsB d ca L mc E.1] : List va_W)) H → va_D A (List.flatten ([bbB d ba ca na ta ka ia β, stB d na σ, coB d ca dy fa κ, lsB d ca L mc E.1] : List va_W)) → va_S A s.heap H locs → ∀ ls : Array Slot, lv_has ls 7 [(0, .ref (ba 0)), (2, .int x2), (4, .int x4), (5, .int x5), (6, .int y6)] → W p l e R s m args below meth c H locs kc ks Q (F0 m 190 ls [])) →
      W p l e R s m args below meth c H locs kc ks Q (F0 m 147 ls []) := by
  have C0 := C
  obtain ⟨hx, hb, hown, hts, hml, hlocks, hA, hK, hm, hRf, hRl, hok⟩ := C
  have C := C0
  intro k
  induction k with
  | zero => intro x4 x5 x6 y6 H locs hf
            cases hf
  | succ k ih =>
    intro x4 x5 x6 y6 H locs hf hP hD hS ls hl hk0
    rw [bl_sent_L147] at hf
    refine lv_iload hx hb dX1_sent_147 (lv_at hl 2 rfl) ?_
    refine lv_iload hx hb dX1_sent_149 (lv_at hl 4 rfl) ?_
    refine lv_ishr hx hb dX1_sent_151 ?_
    refine lv_iconst (v := (1 : Int32)) hx hb dX1_sent_152 (by decide) ?_
    refine lv_iand hx hb dX1_sent_153 ?_
    refine lv_iconst (v := (1 : Int32)) hx hb dX1_sent_154 (by decide) ?_
    refine lv_icmp_eq (tgt := 184) hx hb dX1_sent_155 (by decide) (fun c19 => ?_) (fun c19 => ?_)
    · have hf := bq_ip c19 hf
      obtain ⟨v20, ev20, hf⟩ := bq_lts hf
      refine lv_iinc (v := v20) (lv' := [(6, .int v20), (0, .ref (ba 0)), (2, .int x2), (4, .int x4), (5, .int x5)]) hx hb dX1_sent_184 hl (k := 4) rfl (bq_inc (by decide) ev20) (by decide) rfl (fun ls hl => ?_)
      refine lv_goto (tgt := 147) hx hb dX1_sent_187 (by decide) ?_
      exact ih _ _ _ _ _ _ hf hP hD hS ls (lv_sub hl [1, 2, 3, 4, 0] rfl) hk0
    · have hf := bq_in c19 hf
      refine lv_aload_n hx hb dX1_sent_158 rfl (lv_at hl 0 rfl) ?_
      refine lv_iload hx hb dX1_sent_159 (lv_at hl 3 rfl) ?_
      refine lv_iload hx hb dX1_sent_161 (lv_at hl 4 rfl) ?_
      refine lv_iload hx hb dX1_sent_163 (lv_at hl 2 rfl) ?_
      obtain ⟨v21, hg, hf⟩ := bq_b1s hf
      refine bq_cV (bs := [bbB d ba ca na ta ka ia β, stB d na σ, coB d ca dy fa κ, lsB d ca L mc E.1]) (bc := [bbB d ba ca na ta ka ia β, stB d na σ, coB d ca dy fa κ]) (br := [lsB d ca L mc E.1]) (bc' := [bbB d ba ca na ta ka ia β, stB d na σ, coB d ca dy fa κ]) (bs' := [bbB d ba ca na ta ka ia β, stB d na σ, coB d ca dy fa κ, lsB d ca L mc E.1]) (As := [.int x5, .int x6, .int x4]) (rest := []) (o := (some (.int v21))) C hkc hks (met_bl_by hok hamb hg) (bq_pm [0, 1, 2, 3] rfl rfl rfl) (bq_pm [0, 1, 2, 3] rfl rfl rfl) (lw_V q1570 q1572 qs40 q113 q1573) (hd_X1_by) (Nat.le_of_ble_eq_true rfl) (Nat.le_of_ble_eq_true rfl) (va_recv hK hP (ci := 1) (q0 := 0) rfl rfl) rfl hl.1 rfl (Nat.le_of_ble_eq_true rfl) dX1_sent_165 hP hD hS (fun H locs hP hD hS => ?_)
      refine lv_aload_n hx hb dX1_sent_168 rfl (lv_at hl 0 rfl) ?_
      refine gX1_get (own := RX1) (fs := (bbF ba ca na ta ka ia β)) (v := .ref (ba 2)) hx hb hts hown hK hP (q0 := 0) rfl 9 (Nat.le_of_ble_eq_true rfl) (hts _ q764) rfl dX1_sent_169 ?_
      refine lv_iload hx hb dX1_sent_172 (lv_at hl 3 rfl) ?_
      refine lv_bipush (v := (6 : Int32)) hx hb dX1_sent_174 (by decide) ?_
      refine lv_ishl hx hb dX1_sent_176 ?_
      refine lv_iload hx hb dX1_sent_177 (lv_at hl 2 rfl) ?_
      refine lv_iadd hx hb dX1_sent_179 ?_
      obtain ⟨h22, hf⟩ := bq_cks hf
      refine bq_ild (j := (((x5 <<< ((6 : Int32) &&& 31)) + x4).toNatClampNeg)) (f := β 2) (q := 0) hx hb hK hP 2 rfl rfl h22 rfl dX1_sent_180 ?_
      refine lv_icmp_eq (tgt := 190) hx hb dX1_sent_181 (by decide) (fun c23 => ?_) (fun c23 => ?_)
      · have hf := bq_ip c23 hf
        obtain rfl := Option.some.inj hf
        exact hk0 _ _ hP hD hS ls (lv_sub hl [0, 1, 2, 3, 4] rfl)
      · have hf := bq_in c23 hf
        obtain ⟨v24, ev24, hf⟩ := bq_lts hf
        refine lv_iinc (v := v24) (lv' := [(6, .int v24), (0, .ref (ba 0)), (2, .int x2), (4, .int x4), (5, .int x5)]) hx hb dX1_sent_184 hl (k := 4) rfl (bq_inc (by decide) ev24) (by decide) rfl (fun ls hl => ?_)
        refine lv_goto (tgt := 147) hx hb dX1_sent_187 (by decide) ?_
        exact ih _ _ _ _ _ _ hf hP hD hS ls (lv_sub hl [1, 2, 3, 4, 0] rfl) hk0
set_option maxHeartbeats 4000000 in
theorem wk_bl_sent_L144 {p : Program} {e : Env} {R : Room} {s : State} {m : MethodId} {args : Array Value} {below : List Frame} {meth : Method} {c : Code} {A : Nat → Prop} {kc ks : Nat} {Q : State → Prop} {l : Launch} {D : va_G} {am : bqAm} {X vE sE : Nat → Nat} {d : Nat → ClassId} {ba ca ia ka na ta : Nat → Nat} {dy fa : Option Nat} {L : Nat} {mc : Int32} {F : Nat} {E : bqE} (C : bq_C p R s m args meth c A D bqCl (bqTy d) am cX1_sent 7 RX1 7 130) (hkc : kc ≤ R.cells) (hks : ks ≤ R.slots) (hamb : bq_Amb am X vE sE) (hst : l.stackTraces = false) (hL : E.1 ≤ L ∧ L < 2147483648) {β : bqS} {σ : bqS} {κ : bqS} :
    ∀ (k : Nat) (x2 : Int32) (x4 : Int32) (x5 : Int32) (y6 : Int32) (H : Heap) (locs : List Loc), bl_sent_L144 F E β σ κ k x2 x4 x5 = some y6 → va_P D bqCl (List.flatten ([bbB d ba ca na ta ka ia β, stB d na σ, coB d ca dy fa κ, lsB d ca L mc E.1] : List va_W)) H → va_D A (List.flatten ([bbB d ba ca na ta ka ia β, stB d na σ, coB d ca dy fa κ, lsB d ca L mc E.1] : List va_W)) → va_S A s.heap H locs → ∀ ls : Array Slot, lv_has ls 7 [(0, .ref (ba 0)), (2, .int x2), (4, .int x4), (5, .int x5)] →
      (∀ (H : Heap) (locs : List Loc), va_P D bqCl (List.flatten ([bbB d ba ca na ta ka ia β, stB d na σ, coB d ca dy fa κ, lsB d ca L mc E.1] : List va_W)) H → va_D A (List.flatten ([bbB d ba ca na ta ka ia β, stB d na σ, coB d ca dy fa κ, lsB d ca L mc E.1] : List va_W)) → va_S A s.heap H locs → ∀ ls : Array Slot, lv_has ls 7 [(6, .int y6)] → W p l e R s m args below meth c H locs kc ks Q (F0 m 201 ls [])) →
      W p l e R s m args below meth c H locs kc ks Q (F0 m 144 ls []) := by
  have C0 := C
  obtain ⟨hx, hb, hown, hts, hml, hlocks, hA, hK, hm, hRf, hRl, hok⟩ := C
  have C := C0
  intro k
  induction k with
  | zero => intro x2 x4 x5 y6 H locs hf
            cases hf
  | succ k ih =>
    intro x2 x4 x5 y6 H locs hf hP hD hS ls hl hk0
    rw [bl_sent_L144] at hf
    refine lv_iconst (v := (0 : Int32)) hx hb dX1_sent_144 (by decide) ?_
    refine lv_istore (lv' := [(6, .int (0 : Int32)), (0, .ref (ba 0)), (2, .int x2), (4, .int x4), (5, .int x5)]) hx hb dX1_sent_145 hl (by decide) rfl (fun ls hl => ?_)
    obtain ⟨v25, hg, hf⟩ := bq_b1s hf
    refine wk_bl_sent_L147 C hkc hks hamb hst hL _ _ _ _ _ _ _ hg hP hD hS ls (lv_sub hl [1, 2, 3, 4, 0] rfl) ?_
    · intro H locs hP hD hS ls hl
      refine lv_aload_n hx hb dX1_sent_190 rfl (lv_at hl 0 rfl) ?_
      refine gX1_get (own := RX1) (fs := (bbF ba ca na ta ka ia β)) (v := .ref (ba 3)) hx hb hts hown hK hP (q0 := 0) rfl 10 (Nat.le_of_ble_eq_true rfl) (hts _ q765) rfl dX1_sent_191 ?_
      refine lv_iload hx hb dX1_sent_194 (lv_at hl 3 rfl) ?_
      obtain ⟨h26, hf⟩ := bq_cks hf
      refine bq_ild (j := x5.toNatClampNeg) (f := β 3) (q := 0) hx hb hK hP 3 rfl rfl h26 rfl dX1_sent_196 ?_
      refine lv_iload_n hx hb dX1_sent_197 rfl (lv_at hl 1 rfl) ?_
      refine lv_icmp_ne (tgt := 204) hx hb dX1_sent_198 (by decide) (fun c27 => ?_) (fun c27 => ?_)
      · have hf := bq_in c27 hf
        refine lv_iload hx hb dX1_sent_204 (lv_at hl 2 rfl) ?_
        refine lv_iconst (v := (1 : Int32)) hx hb dX1_sent_206 (by decide) ?_
        refine lv_iload hx hb dX1_sent_207 (lv_at hl 4 rfl) ?_
        refine lv_ishl hx hb dX1_sent_209 ?_
        refine lv_ior hx hb dX1_sent_210 ?_
        obtain ⟨v28, ev28, hf⟩ := bq_lts hf
        refine bq_tope ev28 ?_
        refine lv_istore (lv' := [(4, .int v28), (0, .ref (ba 0)), (2, .int x2), (5, .int x5), (6, .int v25)]) hx hb dX1_sent_211 hl (by decide) rfl (fun ls hl => ?_)
        obtain ⟨v29, ev29, hf⟩ := bq_lts hf
        refine lv_iinc (v := v29) (lv' := [(5, .int v29), (4, .int v28), (0, .ref (ba 0)), (2, .int x2), (6, .int v25)]) hx hb dX1_sent_213 hl (k := 3) rfl (bq_inc (by decide) ev29) (by decide) rfl (fun ls hl => ?_)
        refine lv_goto (tgt := 144) hx hb dX1_sent_216 (by decide) ?_
        exact ih _ _ _ _ _ _ hf hP hD hS ls (lv_sub hl [2, 3, 1, 0] rfl) hk0
      · have hf := bq_ip c27 hf
        obtain rfl := Option.some.inj hf
        exact hk0 _ _ hP hD hS ls (lv_sub hl [4] rfl)
set_option maxHeartbeats 4000000 in
theorem wk_bl_sent_J59 {p : Program} {e : Env} {s : State} {m : MethodId} {args : Array Value} {below : List Frame} {meth : Method} {c : Code} {A : Nat → Prop} {l : Launch} {D : va_G} {am : bqAm} {X vE sE : Nat → Nat} {d : Nat → ClassId} {ba ca ia ka na ta : Nat → Nat} {dy fa : Option Nat} {L : Nat} {mc : Int32} {F : Nat} {E : bqE} (C : bq_C p ({ frames := 7, cells := 2, slots := 12, locals := 130 } : Room) s m args meth c A D bqCl (bqTy d) am cX1_sent 7 RX1 7 130) (hkc : 1 ≤ 2) (hks : 6 ≤ 12) (hamb : bq_Amb am X vE sE) (hst : l.stackTraces = false) (hL : E.1 ≤ L ∧ L < 2147483648) (hr : meth.sig.returnType = (some .int)) (hex : ∀ x ∈ c.exceptionTable.toList, False) (β : bqS) (σ : bqS) (κ : bqS) (x1 : Int32) (x2 : Int32) (tg : Nat) (r : Int32) (β' : bqS) (H : Heap) (locs : List Loc) :
      bl_sent_J59 F E β σ κ x1 x2 = some (tg, r, β') → va_P D bqCl (List.flatten ([bbB d ba ca na ta ka ia β, stB d na σ, coB d ca dy fa κ, lsB d ca L mc E.1] : List va_W)) H → va_D A (List.flatten ([bbB d ba ca na ta ka ia β, stB d na σ, coB d ca dy fa κ, lsB d ca L mc E.1] : List va_W)) → va_S A s.heap H locs → ∀ ls : Array Slot, lv_has ls 7 [(0, .ref (ba 0)), (1, .int x1), (2, .int x2)] →
      W p l e ({ frames := 7, cells := 2, slots := 12, locals := 130 } : Room) s m args below meth c H locs 1 6 (vx_MQ below (bq_QX D bqCl tg (some (.int r)) (List.flatten ([bbB d ba ca na ta ka ia β', stB d na σ, coB d ca dy fa κ, lsB d ca L mc E.1] : List va_W)) A) (bq_XX D bqCl tg (List.flatten ([bbB d ba ca na ta ka ia β', stB d na σ, coB d ca dy fa κ, lsB d ca L mc E.1] : List va_W)) A) args s 2 12 A) (F0 m 59 ls []) := by
  have C0 := C
  obtain ⟨hx, hb, hown, hts, hml, hlocks, hA, hK, hm, hRf, hRl, hok⟩ := C
  have C := C0
  intro hf hP hD hS ls hl 
  unfold bl_sent_J59 at hf
  refine lv_iconst (v := (1 : Int32)) hx hb dX1_sent_59 (by decide) ?_
  refine lv_goto (tgt := 64) hx hb dX1_sent_60 (by decide) ?_
  obtain ⟨t4, hg, hf⟩ := bq_b1s hf
  refine bq_cSX (bs := [bbB d ba ca na ta ka ia β, stB d na σ, coB d ca dy fa κ, lsB d ca L mc E.1]) (bc := []) (br := [bbB d ba ca na ta ka ia β, stB d na σ, coB d ca dy fa κ, lsB d ca L mc E.1]) (bc' := []) (bs' := [bbB d ba ca na ta ka ia β, stB d na σ, coB d ca dy fa κ, lsB d ca L mc E.1]) (As := [.int (1 : Int32)]) (rest := []) (o := none) C (Nat.le_of_ble_eq_true rfl) (Nat.le_of_ble_eq_true rfl) (met_bl_there hok hamb hst hg) (bq_pm [0, 1, 2, 3] rfl rfl rfl) (bq_pm [0, 1, 2, 3] rfl rfl rfl) (lw_S q1394 q1395 q113 q1396) (hd_X1_there) (Nat.le_of_ble_eq_true rfl) (Nat.le_of_ble_eq_true rfl) rfl hl.1 rfl (Nat.le_of_ble_eq_true rfl) dX1_sent_64 hP hD hS (fun ht_ H locs hP hD hS => ?_) (fun ht_ => ?_)
  · have hf := bq_ip ht_ hf
    have hkc : 2 ≤ 2 := by decide
    have hks : 12 ≤ 12 := by decide
    refine lv_iconst (v := (0 : Int32)) hx hb dX1_sent_67 (by decide) ?_
    refine lv_istore_n (lv' := [(3, .int (0 : Int32)), (0, .ref (ba 0)), (1, .int x1), (2, .int x2)]) hx hb dX1_sent_68 rfl hl (by decide) rfl (fun ls hl => ?_)
    refine lv_iconst (v := (0 : Int32)) hx hb dX1_sent_69 (by decide) ?_
    refine lv_istore (lv' := [(4, .int (0 : Int32)), (3, .int (0 : Int32)), (0, .ref (ba 0)), (1, .int x1), (2, .int x2)]) hx hb dX1_sent_70 hl (by decide) rfl (fun ls hl => ?_)
    obtain ⟨v13, β14, hg, hf⟩ := bq_b2s hf
    refine wk_bl_sent_L72 C hkc hks hamb hst hL _ _ _ _ _ _ _ _ _ hg hP hD hS ls (lv_sub hl [2, 3, 4, 1, 0] rfl) ?_
    · intro H locs hP hD hS ls hl
      refine lv_iload_n hx hb dX1_sent_110 rfl (lv_at hl 2 rfl) ?_
      refine lv_aload_n hx hb dX1_sent_111 rfl (lv_at hl 0 rfl) ?_
      obtain ⟨v15, hg, hf⟩ := bq_b1s hf
      refine bq_cV (bs := [bbB d ba ca na ta ka ia β14, stB d na σ, coB d ca dy fa κ, lsB d ca L mc E.1]) (bc := [bbB d ba ca na ta ka ia β14, coB d ca dy fa κ, lsB d ca L mc E.1]) (br := [stB d na σ]) (bc' := [bbB d ba ca na ta ka ia β14, coB d ca dy fa κ, lsB d ca L mc E.1]) (bs' := [bbB d ba ca na ta ka ia β14, stB d na σ, coB d ca dy fa κ, lsB d ca L mc E.1]) (As := []) (rest := [.int v13]) (o := (some (.int v15))) C hkc hks (met_bl_girls hok hamb hL hg) (bq_pm [0, 2, 3, 1] rfl rfl rfl) (bq_pm [0, 3, 1, 2] rfl rfl rfl) (lw_V q979 q981 qs12 q113 q982) (hd_X1_girls) (Nat.le_of_ble_eq_true rfl) (Nat.le_of_ble_eq_true rfl) (va_recv hK hP (ci := 1) (q0 := 0) rfl rfl) rfl hl.1 rfl (Nat.le_of_ble_eq_true rfl) dX1_sent_112 hP hD hS (fun H locs hP hD hS => ?_)
      refine lv_icmp_le (tgt := 121) hx hb dX1_sent_115 (by decide) (fun c16 => ?_) (fun c16 => ?_)
      · have hf := bq_ip c16 hf
        refine lv_aload_n hx hb dX1_sent_121 rfl (lv_at hl 0 rfl) ?_
        refine lv_iload_n hx hb dX1_sent_122 rfl (lv_at hl 2 rfl) ?_
        obtain ⟨β17, hg, hf⟩ := bq_b1s hf
        refine bq_cV (bs := [bbB d ba ca na ta ka ia β14, stB d na σ, coB d ca dy fa κ, lsB d ca L mc E.1]) (bc := [bbB d ba ca na ta ka ia β14, stB d na σ, coB d ca dy fa κ, lsB d ca L mc E.1]) (br := []) (bc' := [bbB d ba ca na ta ka ia β17, stB d na σ, coB d ca dy fa κ, lsB d ca L mc E.1]) (bs' := [bbB d ba ca na ta ka ia β17, stB d na σ, coB d ca dy fa κ, lsB d ca L mc E.1]) (As := [.int v13]) (rest := []) (o := none) C hkc hks (met_bl_sends hok hamb hL hg) (bq_pm [0, 1, 2, 3] rfl rfl rfl) (bq_pm [0, 1, 2, 3] rfl rfl rfl) (lw_V q1566 q1568 qs39 q113 q1569) (hd_X1_sends) (Nat.le_of_ble_eq_true rfl) (Nat.le_of_ble_eq_true rfl) (va_recv hK hP (ci := 1) (q0 := 0) rfl rfl) rfl hl.1 rfl (Nat.le_of_ble_eq_true rfl) dX1_sent_123 hP hD hS (fun H locs hP hD hS => ?_)
        refine lv_iload_n hx hb dX1_sent_126 rfl (lv_at hl 1 rfl) ?_
        refine lv_iconst (v := (-1 : Int32)) hx hb dX1_sent_127 (by decide) ?_
        refine lv_icmp_ne (tgt := 138) hx hb dX1_sent_128 (by decide) (fun c18 => ?_) (fun c18 => ?_)
        · have hf := bq_in c18 hf
          refine lv_iconst (v := (0 : Int32)) hx hb dX1_sent_138 (by decide) ?_
          refine lv_istore (lv' := [(4, .int (0 : Int32)), (0, .ref (ba 0)), (2, .int x2), (3, .int v13)]) hx hb dX1_sent_139 hl (by decide) rfl (fun ls hl => ?_)
          refine lv_iconst (v := (0 : Int32)) hx hb dX1_sent_141 (by decide) ?_
          refine lv_istore (lv' := [(5, .int (0 : Int32)), (4, .int (0 : Int32)), (0, .ref (ba 0)), (2, .int x2), (3, .int v13)]) hx hb dX1_sent_142 hl (by decide) rfl (fun ls hl => ?_)
          obtain ⟨v30, hg, hf⟩ := bq_b1s hf
          refine wk_bl_sent_L144 C hkc hks hamb hst hL _ _ _ _ _ _ _ hg hP hD hS ls (lv_sub hl [2, 3, 1, 0] rfl) ?_
          · intro H locs hP hD hS ls hl
            refine lv_iload hx hb dX1_sent_201 (lv_at hl 0 rfl) ?_
            obtain ⟨rfl, rfl, rfl⟩ := bq_p3 hf
            exact bq_iretX C hr (by decide) (by decide) hP hD hS dX1_sent_203
        · have hf := bq_ip c18 hf
          refine lv_aload_n hx hb dX1_sent_131 rfl (lv_at hl 0 rfl) ?_
          refine gX1_get (own := RX1) (fs := (bbF ba ca na ta ka ia β17)) (v := .ref (ba 2)) hx hb hts hown hK hP (q0 := 0) rfl 9 (Nat.le_of_ble_eq_true rfl) (hts _ q764) rfl dX1_sent_132 ?_
          refine lv_iconst (v := (0 : Int32)) hx hb dX1_sent_135 (by decide) ?_
          refine bq_ild (j := 0) (f := β17 2) (q := 0) hx hb hK hP 2 rfl rfl (by unfold vp_in; decide) (by decide) dX1_sent_136 ?_
          obtain ⟨rfl, rfl, rfl⟩ := bq_p3 hf
          exact bq_iretX C hr (by decide) (by decide) hP hD hS dX1_sent_137
      · have hf := bq_in c16 hf
        refine lv_bipush (v := (-2 : Int32)) hx hb dX1_sent_118 (by decide) ?_
        obtain ⟨rfl, rfl, rfl⟩ := bq_p3 hf
        exact bq_iretX C hr (by decide) (by decide) hP hD hS dX1_sent_120
  · have hf := bq_in ht_ hf
    obtain ⟨rfl, rfl, rfl⟩ := bq_p3 hf
    exact bq_prop C hex ht_ (by decide) (by decide)
set_option maxHeartbeats 4000000 in
theorem wk_bl_sent_J63 {p : Program} {e : Env} {s : State} {m : MethodId} {args : Array Value} {below : List Frame} {meth : Method} {c : Code} {A : Nat → Prop} {l : Launch} {D : va_G} {am : bqAm} {X vE sE : Nat → Nat} {d : Nat → ClassId} {ba ca ia ka na ta : Nat → Nat} {dy fa : Option Nat} {L : Nat} {mc : Int32} {F : Nat} {E : bqE} (C : bq_C p ({ frames := 7, cells := 2, slots := 12, locals := 130 } : Room) s m args meth c A D bqCl (bqTy d) am cX1_sent 7 RX1 7 130) (hkc : 1 ≤ 2) (hks : 6 ≤ 12) (hamb : bq_Amb am X vE sE) (hst : l.stackTraces = false) (hL : E.1 ≤ L ∧ L < 2147483648) (hr : meth.sig.returnType = (some .int)) (hex : ∀ x ∈ c.exceptionTable.toList, False) (β : bqS) (σ : bqS) (κ : bqS) (x1 : Int32) (x2 : Int32) (tg : Nat) (r : Int32) (β' : bqS) (H : Heap) (locs : List Loc) :
      bl_sent_J63 F E β σ κ x1 x2 = some (tg, r, β') → va_P D bqCl (List.flatten ([bbB d ba ca na ta ka ia β, stB d na σ, coB d ca dy fa κ, lsB d ca L mc E.1] : List va_W)) H → va_D A (List.flatten ([bbB d ba ca na ta ka ia β, stB d na σ, coB d ca dy fa κ, lsB d ca L mc E.1] : List va_W)) → va_S A s.heap H locs → ∀ ls : Array Slot, lv_has ls 7 [(0, .ref (ba 0)), (1, .int x1), (2, .int x2)] →
      W p l e ({ frames := 7, cells := 2, slots := 12, locals := 130 } : Room) s m args below meth c H locs 1 6 (vx_MQ below (bq_QX D bqCl tg (some (.int r)) (List.flatten ([bbB d ba ca na ta ka ia β', stB d na σ, coB d ca dy fa κ, lsB d ca L mc E.1] : List va_W)) A) (bq_XX D bqCl tg (List.flatten ([bbB d ba ca na ta ka ia β', stB d na σ, coB d ca dy fa κ, lsB d ca L mc E.1] : List va_W)) A) args s 2 12 A) (F0 m 63 ls []) := by
  have C0 := C
  obtain ⟨hx, hb, hown, hts, hml, hlocks, hA, hK, hm, hRf, hRl, hok⟩ := C
  have C := C0
  intro hf hP hD hS ls hl 
  unfold bl_sent_J63 at hf
  refine lv_iconst (v := (0 : Int32)) hx hb dX1_sent_63 (by decide) ?_
  obtain ⟨t34, hg, hf⟩ := bq_b1s hf
  refine bq_cSX (bs := [bbB d ba ca na ta ka ia β, stB d na σ, coB d ca dy fa κ, lsB d ca L mc E.1]) (bc := []) (br := [bbB d ba ca na ta ka ia β, stB d na σ, coB d ca dy fa κ, lsB d ca L mc E.1]) (bc' := []) (bs' := [bbB d ba ca na ta ka ia β, stB d na σ, coB d ca dy fa κ, lsB d ca L mc E.1]) (As := [.int (0 : Int32)]) (rest := []) (o := none) C (Nat.le_of_ble_eq_true rfl) (Nat.le_of_ble_eq_true rfl) (met_bl_there hok hamb hst hg) (bq_pm [0, 1, 2, 3] rfl rfl rfl) (bq_pm [0, 1, 2, 3] rfl rfl rfl) (lw_S q1394 q1395 q113 q1396) (hd_X1_there) (Nat.le_of_ble_eq_true rfl) (Nat.le_of_ble_eq_true rfl) rfl hl.1 rfl (Nat.le_of_ble_eq_true rfl) dX1_sent_64 hP hD hS (fun ht_ H locs hP hD hS => ?_) (fun ht_ => ?_)
  · have hf := bq_ip ht_ hf
    have hkc : 2 ≤ 2 := by decide
    have hks : 12 ≤ 12 := by decide
    refine lv_iconst (v := (0 : Int32)) hx hb dX1_sent_67 (by decide) ?_
    refine lv_istore_n (lv' := [(3, .int (0 : Int32)), (0, .ref (ba 0)), (1, .int x1), (2, .int x2)]) hx hb dX1_sent_68 rfl hl (by decide) rfl (fun ls hl => ?_)
    refine lv_iconst (v := (0 : Int32)) hx hb dX1_sent_69 (by decide) ?_
    refine lv_istore (lv' := [(4, .int (0 : Int32)), (3, .int (0 : Int32)), (0, .ref (ba 0)), (1, .int x1), (2, .int x2)]) hx hb dX1_sent_70 hl (by decide) rfl (fun ls hl => ?_)
    obtain ⟨v35, β36, hg, hf⟩ := bq_b2s hf
    refine wk_bl_sent_L72 C hkc hks hamb hst hL _ _ _ _ _ _ _ _ _ hg hP hD hS ls (lv_sub hl [2, 3, 4, 1, 0] rfl) ?_
    · intro H locs hP hD hS ls hl
      refine lv_iload_n hx hb dX1_sent_110 rfl (lv_at hl 2 rfl) ?_
      refine lv_aload_n hx hb dX1_sent_111 rfl (lv_at hl 0 rfl) ?_
      obtain ⟨v37, hg, hf⟩ := bq_b1s hf
      refine bq_cV (bs := [bbB d ba ca na ta ka ia β36, stB d na σ, coB d ca dy fa κ, lsB d ca L mc E.1]) (bc := [bbB d ba ca na ta ka ia β36, coB d ca dy fa κ, lsB d ca L mc E.1]) (br := [stB d na σ]) (bc' := [bbB d ba ca na ta ka ia β36, coB d ca dy fa κ, lsB d ca L mc E.1]) (bs' := [bbB d ba ca na ta ka ia β36, stB d na σ, coB d ca dy fa κ, lsB d ca L mc E.1]) (As := []) (rest := [.int v35]) (o := (some (.int v37))) C hkc hks (met_bl_girls hok hamb hL hg) (bq_pm [0, 2, 3, 1] rfl rfl rfl) (bq_pm [0, 3, 1, 2] rfl rfl rfl) (lw_V q979 q981 qs12 q113 q982) (hd_X1_girls) (Nat.le_of_ble_eq_true rfl) (Nat.le_of_ble_eq_true rfl) (va_recv hK hP (ci := 1) (q0 := 0) rfl rfl) rfl hl.1 rfl (Nat.le_of_ble_eq_true rfl) dX1_sent_112 hP hD hS (fun H locs hP hD hS => ?_)
      refine lv_icmp_le (tgt := 121) hx hb dX1_sent_115 (by decide) (fun c38 => ?_) (fun c38 => ?_)
      · have hf := bq_ip c38 hf
        refine lv_aload_n hx hb dX1_sent_121 rfl (lv_at hl 0 rfl) ?_
        refine lv_iload_n hx hb dX1_sent_122 rfl (lv_at hl 2 rfl) ?_
        obtain ⟨β39, hg, hf⟩ := bq_b1s hf
        refine bq_cV (bs := [bbB d ba ca na ta ka ia β36, stB d na σ, coB d ca dy fa κ, lsB d ca L mc E.1]) (bc := [bbB d ba ca na ta ka ia β36, stB d na σ, coB d ca dy fa κ, lsB d ca L mc E.1]) (br := []) (bc' := [bbB d ba ca na ta ka ia β39, stB d na σ, coB d ca dy fa κ, lsB d ca L mc E.1]) (bs' := [bbB d ba ca na ta ka ia β39, stB d na σ, coB d ca dy fa κ, lsB d ca L mc E.1]) (As := [.int v35]) (rest := []) (o := none) C hkc hks (met_bl_sends hok hamb hL hg) (bq_pm [0, 1, 2, 3] rfl rfl rfl) (bq_pm [0, 1, 2, 3] rfl rfl rfl) (lw_V q1566 q1568 qs39 q113 q1569) (hd_X1_sends) (Nat.le_of_ble_eq_true rfl) (Nat.le_of_ble_eq_true rfl) (va_recv hK hP (ci := 1) (q0 := 0) rfl rfl) rfl hl.1 rfl (Nat.le_of_ble_eq_true rfl) dX1_sent_123 hP hD hS (fun H locs hP hD hS => ?_)
        refine lv_iload_n hx hb dX1_sent_126 rfl (lv_at hl 1 rfl) ?_
        refine lv_iconst (v := (-1 : Int32)) hx hb dX1_sent_127 (by decide) ?_
        refine lv_icmp_ne (tgt := 138) hx hb dX1_sent_128 (by decide) (fun c40 => ?_) (fun c40 => ?_)
        · have hf := bq_in c40 hf
          refine lv_iconst (v := (0 : Int32)) hx hb dX1_sent_138 (by decide) ?_
          refine lv_istore (lv' := [(4, .int (0 : Int32)), (0, .ref (ba 0)), (2, .int x2), (3, .int v35)]) hx hb dX1_sent_139 hl (by decide) rfl (fun ls hl => ?_)
          refine lv_iconst (v := (0 : Int32)) hx hb dX1_sent_141 (by decide) ?_
          refine lv_istore (lv' := [(5, .int (0 : Int32)), (4, .int (0 : Int32)), (0, .ref (ba 0)), (2, .int x2), (3, .int v35)]) hx hb dX1_sent_142 hl (by decide) rfl (fun ls hl => ?_)
          obtain ⟨v41, hg, hf⟩ := bq_b1s hf
          refine wk_bl_sent_L144 C hkc hks hamb hst hL _ _ _ _ _ _ _ hg hP hD hS ls (lv_sub hl [2, 3, 1, 0] rfl) ?_
          · intro H locs hP hD hS ls hl
            refine lv_iload hx hb dX1_sent_201 (lv_at hl 0 rfl) ?_
            obtain ⟨rfl, rfl, rfl⟩ := bq_p3 hf
            exact bq_iretX C hr (by decide) (by decide) hP hD hS dX1_sent_203
        · have hf := bq_ip c40 hf
          refine lv_aload_n hx hb dX1_sent_131 rfl (lv_at hl 0 rfl) ?_
          refine gX1_get (own := RX1) (fs := (bbF ba ca na ta ka ia β39)) (v := .ref (ba 2)) hx hb hts hown hK hP (q0 := 0) rfl 9 (Nat.le_of_ble_eq_true rfl) (hts _ q764) rfl dX1_sent_132 ?_
          refine lv_iconst (v := (0 : Int32)) hx hb dX1_sent_135 (by decide) ?_
          refine bq_ild (j := 0) (f := β39 2) (q := 0) hx hb hK hP 2 rfl rfl (by unfold vp_in; decide) (by decide) dX1_sent_136 ?_
          obtain ⟨rfl, rfl, rfl⟩ := bq_p3 hf
          exact bq_iretX C hr (by decide) (by decide) hP hD hS dX1_sent_137
      · have hf := bq_in c38 hf
        refine lv_bipush (v := (-2 : Int32)) hx hb dX1_sent_118 (by decide) ?_
        obtain ⟨rfl, rfl, rfl⟩ := bq_p3 hf
        exact bq_iretX C hr (by decide) (by decide) hP hD hS dX1_sent_120
  · have hf := bq_in ht_ hf
    obtain ⟨rfl, rfl, rfl⟩ := bq_p3 hf
    exact bq_prop C hex ht_ (by decide) (by decide)
set_option maxHeartbeats 4000000 in
theorem wk_bl_sent_J27 {p : Program} {e : Env} {s : State} {m : MethodId} {args : Array Value} {below : List Frame} {meth : Method} {c : Code} {A : Nat → Prop} {l : Launch} {D : va_G} {am : bqAm} {X vE sE : Nat → Nat} {d : Nat → ClassId} {ba ca ia ka na ta : Nat → Nat} {dy fa : Option Nat} {L : Nat} {mc : Int32} {F : Nat} {E : bqE} (C : bq_C p ({ frames := 7, cells := 2, slots := 12, locals := 130 } : Room) s m args meth c A D bqCl (bqTy d) am cX1_sent 7 RX1 7 130) (hkc : 0 ≤ 2) (hks : 0 ≤ 12) (hamb : bq_Amb am X vE sE) (hst : l.stackTraces = false) (hL : E.1 ≤ L ∧ L < 2147483648) (hr : meth.sig.returnType = (some .int)) (hex : ∀ x ∈ c.exceptionTable.toList, False) (β : bqS) (σ : bqS) (κ : bqS) (x1 : Int32) (x2 : Int32) (tg : Nat) (r : Int32) (β' : bqS) (H : Heap) (locs : List Loc) :
      bl_sent_J27 F E β σ κ x1 x2 = some (tg, r, β') → va_P D bqCl (List.flatten ([bbB d ba ca na ta ka ia β, stB d na σ, coB d ca dy fa κ, lsB d ca L mc E.1] : List va_W)) H → va_D A (List.flatten ([bbB d ba ca na ta ka ia β, stB d na σ, coB d ca dy fa κ, lsB d ca L mc E.1] : List va_W)) → va_S A s.heap H locs → ∀ ls : Array Slot, lv_has ls 7 [(0, .ref (ba 0)), (1, .int x1), (2, .int x2)] →
      W p l e ({ frames := 7, cells := 2, slots := 12, locals := 130 } : Room) s m args below meth c H locs 0 0 (vx_MQ below (bq_QX D bqCl tg (some (.int r)) (List.flatten ([bbB d ba ca na ta ka ia β', stB d na σ, coB d ca dy fa κ, lsB d ca L mc E.1] : List va_W)) A) (bq_XX D bqCl tg (List.flatten ([bbB d ba ca na ta ka ia β', stB d na σ, coB d ca dy fa κ, lsB d ca L mc E.1] : List va_W)) A) args s 2 12 A) (F0 m 27 ls []) := by
  have C0 := C
  obtain ⟨hx, hb, hown, hts, hml, hlocks, hA, hK, hm, hRf, hRl, hok⟩ := C
  have C := C0
  intro hf hP hD hS ls hl 
  unfold bl_sent_J27 at hf
  refine lv_iconst (v := (0 : Int32)) hx hb dX1_sent_27 (by decide) ?_
  obtain ⟨t2, hg, hf⟩ := bq_b1s hf
  refine bq_cSX (bs := [bbB d ba ca na ta ka ia β, stB d na σ, coB d ca dy fa κ, lsB d ca L mc E.1]) (bc := []) (br := [bbB d ba ca na ta ka ia β, stB d na σ, coB d ca dy fa κ, lsB d ca L mc E.1]) (bc' := []) (bs' := [bbB d ba ca na ta ka ia β, stB d na σ, coB d ca dy fa κ, lsB d ca L mc E.1]) (As := [.int (0 : Int32)]) (rest := []) (o := none) C (Nat.le_of_ble_eq_true rfl) (Nat.le_of_ble_eq_true rfl) (met_bl_right hok hamb hst hg) (bq_pm [0, 1, 2, 3] rfl rfl rfl) (bq_pm [0, 1, 2, 3] rfl rfl rfl) (lw_S q1021 q1022 q113 q1023) (hd_X1_right) (Nat.le_of_ble_eq_true rfl) (Nat.le_of_ble_eq_true rfl) rfl hl.1 rfl (Nat.le_of_ble_eq_true rfl) dX1_sent_28 hP hD hS (fun ht_ H locs hP hD hS => ?_) (fun ht_ => ?_)
  · have hf := bq_ip ht_ hf
    have hkc : 1 ≤ 2 := by decide
    have hks : 6 ≤ 12 := by decide
    refine lv_iload_n hx hb dX1_sent_31 rfl (lv_at hl 2 rfl) ?_
    refine lv_iconst (v := (-1 : Int32)) hx hb dX1_sent_32 (by decide) ?_
    refine lv_icmp_eq (tgt := 59) hx hb dX1_sent_33 (by decide) (fun c3 => ?_) (fun c3 => ?_)
    · have hf := bq_ip c3 hf
      exact wk_bl_sent_J59 C hkc hks hamb hst hL hr hex _ _ _ _ _ _ _ _ _ _ hf hP hD hS ls (lv_sub hl [0, 1, 2] rfl)
    · have hf := bq_in c3 hf
      refine lv_iload_n hx hb dX1_sent_36 rfl (lv_at hl 2 rfl) ?_
      refine lv_iconst (v := (0 : Int32)) hx hb dX1_sent_37 (by decide) ?_
      refine lv_aload_n hx hb dX1_sent_38 rfl (lv_at hl 0 rfl) ?_
      obtain ⟨v31, hg, hf⟩ := bq_b1s hf
      refine bq_cV (bs := [bbB d ba ca na ta ka ia β, stB d na σ, coB d ca dy fa κ, lsB d ca L mc E.1]) (bc := [bbB d ba ca na ta ka ia β, coB d ca dy fa κ]) (br := [stB d na σ, lsB d ca L mc E.1]) (bc' := [bbB d ba ca na ta ka ia β, coB d ca dy fa κ]) (bs' := [bbB d ba ca na ta ka ia β, stB d na σ, coB d ca dy fa κ, lsB d ca L mc E.1]) (As := []) (rest := [.int (0 : Int32), .int x2]) (o := (some (.int v31))) C hkc hks (met_bl_cells hok hamb hg) (bq_pm [0, 2, 1, 3] rfl rfl rfl) (bq_pm [0, 2, 1, 3] rfl rfl rfl) (lw_V q990 q992 qs13 q113 q993) (hd_X1_cells) (Nat.le_of_ble_eq_true rfl) (Nat.le_of_ble_eq_true rfl) (va_recv hK hP (ci := 1) (q0 := 0) rfl rfl) rfl hl.1 rfl (Nat.le_of_ble_eq_true rfl) dX1_sent_39 hP hD hS (fun H locs hP hD hS => ?_)
      refine lv_iconst (v := (1 : Int32)) hx hb dX1_sent_42 (by decide) ?_
      refine lv_isub hx hb dX1_sent_43 ?_
      obtain ⟨v32, hg, hf⟩ := bq_b1s hf
      refine bq_cS (bs := [bbB d ba ca na ta ka ia β, stB d na σ, coB d ca dy fa κ, lsB d ca L mc E.1]) (bc := []) (br := [bbB d ba ca na ta ka ia β, stB d na σ, coB d ca dy fa κ, lsB d ca L mc E.1]) (bc' := []) (bs' := [bbB d ba ca na ta ka ia β, stB d na σ, coB d ca dy fa κ, lsB d ca L mc E.1]) (As := [.int x2, .int (0 : Int32), .int (v31 - (1 : Int32))]) (rest := []) (o := (some (.int v32))) C hkc hks (met_bl_within hok hg) (bq_pm [0, 1, 2, 3] rfl rfl rfl) (bq_pm [0, 1, 2, 3] rfl rfl rfl) (lw_S q814 q815 q113 q816) (hd_X1_within) (Nat.le_of_ble_eq_true rfl) (Nat.le_of_ble_eq_true rfl) rfl hl.1 rfl (Nat.le_of_ble_eq_true rfl) dX1_sent_44 hP hD hS (fun H locs hP hD hS => ?_)
      refine lv_if_eq (tgt := 63) hx hb dX1_sent_47 (by decide) (fun c33 => ?_) (fun c33 => ?_)
      · have hf := bq_ip c33 hf
        exact wk_bl_sent_J63 C hkc hks hamb hst hL hr hex _ _ _ _ _ _ _ _ _ _ hf hP hD hS ls (lv_sub hl [0, 1, 2] rfl)
      · have hf := bq_in c33 hf
        refine lv_iload_n hx hb dX1_sent_50 rfl (lv_at hl 1 rfl) ?_
        refine lv_iload_n hx hb dX1_sent_51 rfl (lv_at hl 2 rfl) ?_
        refine lv_ishr hx hb dX1_sent_52 ?_
        refine lv_iconst (v := (1 : Int32)) hx hb dX1_sent_53 (by decide) ?_
        refine lv_iand hx hb dX1_sent_54 ?_
        refine lv_iconst (v := (1 : Int32)) hx hb dX1_sent_55 (by decide) ?_
        refine lv_icmp_ne (tgt := 63) hx hb dX1_sent_56 (by decide) (fun c42 => ?_) (fun c42 => ?_)
        · have hf := bq_in c42 hf
          exact wk_bl_sent_J63 C hkc hks hamb hst hL hr hex _ _ _ _ _ _ _ _ _ _ hf hP hD hS ls (lv_sub hl [0, 1, 2] rfl)
        · have hf := bq_ip c42 hf
          exact wk_bl_sent_J59 C hkc hks hamb hst hL hr hex _ _ _ _ _ _ _ _ _ _ hf hP hD hS ls (lv_sub hl [0, 1, 2] rfl)
  · have hf := bq_in ht_ hf
    obtain ⟨rfl, rfl, rfl⟩ := bq_p3 hf
    exact bq_prop C hex ht_ (by decide) (by decide)
