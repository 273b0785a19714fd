set_option maxRecDepth 100000
set_option maxHeartbeats 4000000 in
theorem met_bl_sent {l : Launch} {D : va_G} {am : bqAm} {X vE sE : Nat → Nat} {d : Nat → ClassId} {ba ca ia ka na ta : Nat → Nat} {dy fa : Option Nat} {L : Nat} {mc : Int32} {F : Nat} {E : bqE} {β : bqS} {σ : bqS} {κ : bqS} {β' : bqS} {r : Int32} {tg : Nat} {x1 : Int32} {x2 : Int32} (hok : bq_Ok am) (hamb : bq_Amb am X vE sE) (hst : l.stackTraces = false) (hL : E.1 ≤ L ∧ L < 2147483648) (hf : bl_sent F E β σ κ x1 x2 = some (tg, r, β')) : bq_X l yX1_sent cX1_sent 7 (some .int) 7 130 2 12 D bqCl (bqTy d) am [.ref (ba 0), .int x1, .int x2] (List.flatten ([bbB d ba ca na ta ka ia β, stB d na σ, coB d ca dy fa κ, lsB d ca L mc E.1] : List va_W)) tg (some (.int r)) (List.flatten ([bbB d ba ca na ta ka ia β', stB d na σ, coB d ca dy fa κ, lsB d ca L mc E.1] : List va_W)) := by
  unfold bl_sent at hf
  refine bq_ofX hok (by decide +kernel) (Nat.le_of_ble_eq_true rfl) ?_
  intro p e s m below meth c A ls C hr hex hP hD hS hl
  have C0 := C
  obtain ⟨hx, hb, hown, hts, hml, hlocks, hA, hK, hm, hRf, hRl, hok⟩ := C
  have C := C0
  have hkc := Nat.zero_le 2
  have hks := Nat.zero_le 12
  have hl : lv_has ls 7 [(0, .ref (ba 0)), (1, .int x1), (2, .int x2)] := hl
  refine lv_iload_n hx hb dX1_sent_0 rfl (lv_at hl 1 rfl) ?_
  refine lv_if_lt (tgt := 27) hx hb dX1_sent_1 (by decide) (fun c1 => ?_) (fun c1 => ?_)
  · have hf := bq_ip c1 hf
    exact wk_bl_sent_J27 C hkc hks hamb hst hL hr hex _ _ _ _ _ _ _ _ _ _ hf hP hD hS ls (lv_sub hl [0, 1, 2] rfl)
  · have hf := bq_in c1 hf
    refine lv_iload_n hx hb dX1_sent_4 rfl (lv_at hl 1 rfl) ?_
    refine lv_iconst (v := (1 : Int32)) hx hb dX1_sent_5 (by decide) ?_
    refine lv_aload_n hx hb dX1_sent_6 rfl (lv_at hl 0 rfl) ?_
    obtain ⟨v43, hg, hf⟩ := bq_b1s hf
    refine bq_cV (bs := [bbB d ba ca na ta ka ia β, stB d na σ, coB d ca dy fa κ, lsB d ca L mc E.1]) (bc := [bbB d ba ca na ta ka ia β, coB d ca dy fa κ]) (br := [stB d na σ, lsB d ca L mc E.1]) (bc' := [bbB d ba ca na ta ka ia β, coB d ca dy fa κ]) (bs' := [bbB d ba ca na ta ka ia β, stB d na σ, coB d ca dy fa κ, lsB d ca L mc E.1]) (As := []) (rest := [.int (1 : Int32), .int x1]) (o := (some (.int v43))) C hkc hks (met_bl_cells hok hamb hg) (bq_pm [0, 2, 1, 3] rfl rfl rfl) (bq_pm [0, 2, 1, 3] rfl rfl rfl) (lw_V q990 q992 qs13 q113 q993) (hd_X1_cells) (Nat.le_of_ble_eq_true rfl) (Nat.le_of_ble_eq_true rfl) (va_recv hK hP (ci := 1) (q0 := 0) rfl rfl) rfl hl.1 rfl (Nat.le_of_ble_eq_true rfl) dX1_sent_7 hP hD hS (fun H locs hP hD hS => ?_)
    refine lv_ishl hx hb dX1_sent_10 ?_
    refine lv_icmp_ge (tgt := 27) hx hb dX1_sent_11 (by decide) (fun c44 => ?_) (fun c44 => ?_)
    · have hf := bq_ip c44 hf
      exact wk_bl_sent_J27 C hkc hks hamb hst hL hr hex _ _ _ _ _ _ _ _ _ _ hf hP hD hS ls (lv_sub hl [0, 1, 2] rfl)
    · have hf := bq_in c44 hf
      refine lv_iload_n hx hb dX1_sent_14 rfl (lv_at hl 1 rfl) ?_
      obtain ⟨v45, hg, hf⟩ := bq_b1s hf
      refine bq_cS (bs := [bbB d ba ca na ta ka ia β, stB d na σ, coB d ca dy fa κ, lsB d ca L mc E.1]) (bc := []) (br := [bbB d ba ca na ta ka ia β, stB d na σ, coB d ca dy fa κ, lsB d ca L mc E.1]) (bc' := []) (bs' := [bbB d ba ca na ta ka ia β, stB d na σ, coB d ca dy fa κ, lsB d ca L mc E.1]) (As := [.int x1]) (rest := []) (o := (some (.int v45))) C hkc hks (met_jd_bits hok hg) (bq_pm [0, 1, 2, 3] rfl rfl rfl) (bq_pm [0, 1, 2, 3] rfl rfl rfl) (lw_S q1565 q935 q133 q936) (hd_J16_bitCount) (Nat.le_of_ble_eq_true rfl) (Nat.le_of_ble_eq_true rfl) rfl hl.1 rfl (Nat.le_of_ble_eq_true rfl) dX1_sent_15 hP hD hS (fun H locs hP hD hS => ?_)
      refine lv_bipush (v := (6 : Int32)) hx hb dX1_sent_18 (by decide) ?_
      refine lv_icmp_gt (tgt := 27) hx hb dX1_sent_20 (by decide) (fun c46 => ?_) (fun c46 => ?_)
      · have hf := bq_ip c46 hf
        exact wk_bl_sent_J27 C hkc hks hamb hst hL hr hex _ _ _ _ _ _ _ _ _ _ hf hP hD hS ls (lv_sub hl [0, 1, 2] rfl)
      · have hf := bq_in c46 hf
        refine lv_iconst (v := (1 : Int32)) hx hb dX1_sent_23 (by decide) ?_
        refine lv_goto (tgt := 28) hx hb dX1_sent_24 (by decide) ?_
        obtain ⟨t47, hg, hf⟩ := bq_b1s hf
        refine bq_cSX (bs := [bbB d ba ca na ta ka ia β, stB d na σ, coB d ca dy fa κ, lsB d ca L mc E.1]) (bc := []) (br := [bbB d ba ca na ta ka ia β, stB d na σ, coB d ca dy fa κ, lsB d ca L mc E.1]) (bc' := []) (bs' := [bbB d ba ca na ta ka ia β, stB d na σ, coB d ca dy fa κ, lsB d ca L mc E.1]) (As := [.int (1 : Int32)]) (rest := []) (o := none) C (Nat.le_of_ble_eq_true rfl) (Nat.le_of_ble_eq_true rfl) (met_bl_right hok hamb hst hg) (bq_pm [0, 1, 2, 3] rfl rfl rfl) (bq_pm [0, 1, 2, 3] rfl rfl rfl) (lw_S q1021 q1022 q113 q1023) (hd_X1_right) (Nat.le_of_ble_eq_true rfl) (Nat.le_of_ble_eq_true rfl) rfl hl.1 rfl (Nat.le_of_ble_eq_true rfl) dX1_sent_28 hP hD hS (fun ht_ H locs hP hD hS => ?_) (fun ht_ => ?_)
        · have hf := bq_ip ht_ hf
          have hkc : 1 ≤ 2 := by decide
          have hks : 6 ≤ 12 := by decide
          refine lv_iload_n hx hb dX1_sent_31 rfl (lv_at hl 2 rfl) ?_
          refine lv_iconst (v := (-1 : Int32)) hx hb dX1_sent_32 (by decide) ?_
          refine lv_icmp_eq (tgt := 59) hx hb dX1_sent_33 (by decide) (fun c48 => ?_) (fun c48 => ?_)
          · have hf := bq_ip c48 hf
            exact wk_bl_sent_J59 C hkc hks hamb hst hL hr hex _ _ _ _ _ _ _ _ _ _ hf hP hD hS ls (lv_sub hl [0, 1, 2] rfl)
          · have hf := bq_in c48 hf
            refine lv_iload_n hx hb dX1_sent_36 rfl (lv_at hl 2 rfl) ?_
            refine lv_iconst (v := (0 : Int32)) hx hb dX1_sent_37 (by decide) ?_
            refine lv_aload_n hx hb dX1_sent_38 rfl (lv_at hl 0 rfl) ?_
            obtain ⟨v49, hg, hf⟩ := bq_b1s hf
            refine bq_cV (bs := [bbB d ba ca na ta ka ia β, stB d na σ, coB d ca dy fa κ, lsB d ca L mc E.1]) (bc := [bbB d ba ca na ta ka ia β, coB d ca dy fa κ]) (br := [stB d na σ, lsB d ca L mc E.1]) (bc' := [bbB d ba ca na ta ka ia β, coB d ca dy fa κ]) (bs' := [bbB d ba ca na ta ka ia β, stB d na σ, coB d ca dy fa κ, lsB d ca L mc E.1]) (As := []) (rest := [.int (0 : Int32), .int x2]) (o := (some (.int v49))) C hkc hks (met_bl_cells hok hamb hg) (bq_pm [0, 2, 1, 3] rfl rfl rfl) (bq_pm [0, 2, 1, 3] rfl rfl rfl) (lw_V q990 q992 qs13 q113 q993) (hd_X1_cells) (Nat.le_of_ble_eq_true rfl) (Nat.le_of_ble_eq_true rfl) (va_recv hK hP (ci := 1) (q0 := 0) rfl rfl) rfl hl.1 rfl (Nat.le_of_ble_eq_true rfl) dX1_sent_39 hP hD hS (fun H locs hP hD hS => ?_)
            refine lv_iconst (v := (1 : Int32)) hx hb dX1_sent_42 (by decide) ?_
            refine lv_isub hx hb dX1_sent_43 ?_
            obtain ⟨v50, hg, hf⟩ := bq_b1s hf
            refine bq_cS (bs := [bbB d ba ca na ta ka ia β, stB d na σ, coB d ca dy fa κ, lsB d ca L mc E.1]) (bc := []) (br := [bbB d ba ca na ta ka ia β, stB d na σ, coB d ca dy fa κ, lsB d ca L mc E.1]) (bc' := []) (bs' := [bbB d ba ca na ta ka ia β, stB d na σ, coB d ca dy fa κ, lsB d ca L mc E.1]) (As := [.int x2, .int (0 : Int32), .int (v49 - (1 : Int32))]) (rest := []) (o := (some (.int v50))) C hkc hks (met_bl_within hok hg) (bq_pm [0, 1, 2, 3] rfl rfl rfl) (bq_pm [0, 1, 2, 3] rfl rfl rfl) (lw_S q814 q815 q113 q816) (hd_X1_within) (Nat.le_of_ble_eq_true rfl) (Nat.le_of_ble_eq_true rfl) rfl hl.1 rfl (Nat.le_of_ble_eq_true rfl) dX1_sent_44 hP hD hS (fun H locs hP hD hS => ?_)
            refine lv_if_eq (tgt := 63) hx hb dX1_sent_47 (by decide) (fun c51 => ?_) (fun c51 => ?_)
            · have hf := bq_ip c51 hf
              exact wk_bl_sent_J63 C hkc hks hamb hst hL hr hex _ _ _ _ _ _ _ _ _ _ hf hP hD hS ls (lv_sub hl [0, 1, 2] rfl)
            · have hf := bq_in c51 hf
              refine lv_iload_n hx hb dX1_sent_50 rfl (lv_at hl 1 rfl) ?_
              refine lv_iload_n hx hb dX1_sent_51 rfl (lv_at hl 2 rfl) ?_
              refine lv_ishr hx hb dX1_sent_52 ?_
              refine lv_iconst (v := (1 : Int32)) hx hb dX1_sent_53 (by decide) ?_
              refine lv_iand hx hb dX1_sent_54 ?_
              refine lv_iconst (v := (1 : Int32)) hx hb dX1_sent_55 (by decide) ?_
              refine lv_icmp_ne (tgt := 63) hx hb dX1_sent_56 (by decide) (fun c52 => ?_) (fun c52 => ?_)
              · have hf := bq_in c52 hf
                exact wk_bl_sent_J63 C hkc hks hamb hst hL hr hex _ _ _ _ _ _ _ _ _ _ hf hP hD hS ls (lv_sub hl [0, 1, 2] rfl)
              · have hf := bq_ip c52 hf
                exact wk_bl_sent_J59 C hkc hks hamb hst hL hr hex _ _ _ _ _ _ _ _ _ _ hf hP hD hS ls (lv_sub hl [0, 1, 2] rfl)
        · have hf := bq_in ht_ hf
          obtain ⟨rfl, rfl, rfl⟩ := bq_p3 hf
          exact bq_prop C hex ht_ (by decide) (by decide)
set_option maxHeartbeats 4000000 in
theorem wk_bl_band_L40 {p : Program} {e : Env} {R : Room} {s : State} {m : MethodId} {args : Array Value} {below : List Frame} {meth : Method} {c : Code} {A : Nat → Prop} {kc ks : Nat} {Q : State → Prop} {l : Launch} {D : va_G} {am : bqAm} {X vE sE : Nat → Nat} {d : Nat → ClassId} {ba ca ia ka na ta : Nat → Nat} {dy fa : Option Nat} {L : Nat} {mc : Int32} {P : va_W} {F : Nat} {E : bqE} (C : bq_C p R s m args meth c A D bqCl (bqTy d) am cX1_band 7 RX1 805 24152) (hkc : kc ≤ R.cells) (hks : ks ≤ R.slots) (hamb : bq_Amb am X vE sE) (hst : l.stackTraces = false) (hE : bq_E P vE dy fa E) (hby : bq_By l D am d ca vE P 400) (hL : E.1 ≤ L ∧ L < 2147483648) {β : bqS} {σ : bqS} {τ : bqS} {ν : bqS} {κ : bqS} {x2 : Int32} {x3 : Int32} :
    ∀ (k : Nat) (x4 : Int32) (x5 : Int32) (x6 : Int32) (y5 : Int32) (H : Heap) (locs : List Loc), bl_band_L40 F E β σ τ ν κ k x4 x5 x6 = some y5 → va_P D bqCl (List.flatten ([bbB d ba ca na ta ka ia β, stB d na σ, stB d ta τ, viB d ca ν, coB d ca dy fa κ, lsB d ca L mc E.1, giB ca E.1 κ, P] : List va_W)) H → va_D A (List.flatten ([bbB d ba ca na ta ka ia β, stB d na σ, stB d ta τ, viB d ca ν, coB d ca dy fa κ, lsB d ca L mc E.1, giB ca E.1 κ, P] : List va_W)) → va_S A s.heap H locs → ∀ ls : Array Slot, lv_has ls 7 [(0, .ref (ba 0)), (2, .int x2), (3, .int x3), (4, .int x4), (5, .int x5), (6, .int x6)] →
      (∀ (H : Heap) (locs : List Loc), va_P D bqCl (List.flatten ([bbB d ba ca na ta ka ia β, stB d na σ, stB d ta τ, viB d ca ν, coB d ca dy fa κ, lsB d ca L mc E.1, giB ca E.1 κ, P] : List va_W)) H → va_D A (List.flatten ([bbB d ba ca na ta ka ia β, stB d na σ, stB d ta τ, viB d ca ν, coB d ca dy fa κ, lsB d ca L mc E.1, giB ca E.1 κ, P] : List va_W)) → va_S A s.heap H locs → ∀ ls : Array Slot, lv_has ls 7 [(0, .ref (ba 0)), (2, .int x2), (3, .int x3), (4, .int x4), (5, .int y5)] → W p l e R s m args below meth c H locs kc ks Q (F0 m 84 ls [])) →
      W p l e R s m args below meth c H locs kc ks Q (F0 m 40 ls []) := by
  have C0 := C
  obtain ⟨hx, hb, hown, hts, hml, hlocks, hA, hK, hm, hRf, hRl, hok⟩ := C
  have C := C0
  intro k
  induction k with
  | zero => intro x4 x5 x6 y5 H locs hf
            cases hf
  | succ k ih =>
    intro x4 x5 x6 y5 H locs hf hP hD hS ls hl hk0
    rw [bl_band_L40] at hf
    refine lv_iload hx hb dX1_band_40 (lv_at hl 5 rfl) ?_
    refine lv_aload_n hx hb dX1_band_42 rfl (lv_at hl 0 rfl) ?_
    refine gX1_get (own := RX1) (fs := (bbF ba ca na ta ka ia β)) (v := .ref (ca 0)) hx hb hts hown hK hP (q0 := 0) rfl 0 (Nat.le_of_ble_eq_true rfl) (hts _ q755) rfl dX1_band_43 ?_
    refine gX2_getN (own := RX1) (host := "BlueBag") (fs := (coF ca dy fa κ)) (v := .int (κ 0 0)) hx hb hts hown hK hP (q0 := 18) rfl 0 (Nat.le_of_ble_eq_true rfl) (bq_nF hamb hm 7 rfl) rfl dX1_band_46 ?_
    refine lv_icmp_ge (tgt := 84) hx hb dX1_band_49 (by decide) (fun c6 => ?_) (fun c6 => ?_)
    · have hf := bq_ip c6 hf
      obtain rfl := Option.some.inj hf
      exact hk0 _ _ hP hD hS ls (lv_sub hl [0, 1, 2, 3, 4] rfl)
    · have hf := bq_in c6 hf
      refine lv_iload hx hb dX1_band_52 (lv_at hl 4 rfl) ?_
      refine lv_aload_n hx hb dX1_band_54 rfl (lv_at hl 0 rfl) ?_
      refine gX1_get (own := RX1) (fs := (bbF ba ca na ta ka ia β)) (v := .ref (ta 0)) hx hb hts hown hK hP (q0 := 0) rfl 4 (Nat.le_of_ble_eq_true rfl) (hts _ q759) rfl dX1_band_55 ?_
      refine gX6_getN (own := RX1) (host := "BlueBag") (fs := (stF ta τ)) (v := .ref (ta 1)) hx hb hts hown hK hP (q0 := 11) rfl 0 (Nat.le_of_ble_eq_true rfl) (bq_nF hamb hm 15 rfl) rfl dX1_band_58 ?_
      refine lv_iload hx hb dX1_band_61 (lv_at hl 3 rfl) ?_
      refine lv_aload_n hx hb dX1_band_63 rfl (lv_at hl 0 rfl) ?_
      refine gX1_get (own := RX1) (fs := (bbF ba ca na ta ka ia β)) (v := .ref (ca 0)) hx hb hts hown hK hP (q0 := 0) rfl 0 (Nat.le_of_ble_eq_true rfl) (hts _ q755) rfl dX1_band_64 ?_
      refine gX2_getN (own := RX1) (host := "BlueBag") (fs := (coF ca dy fa κ)) (v := .int (κ 0 0)) hx hb hts hown hK hP (q0 := 18) rfl 0 (Nat.le_of_ble_eq_true rfl) (bq_nF hamb hm 7 rfl) rfl dX1_band_67 ?_
      refine lv_imul hx hb dX1_band_70 ?_
      refine lv_iload hx hb dX1_band_71 (lv_at hl 5 rfl) ?_
      refine lv_iadd hx hb dX1_band_73 ?_
      obtain ⟨h7, hf⟩ := bq_cks hf
      refine bq_ild (j := (((x4 * (κ 0 0)) + x6).toNatClampNeg)) (f := τ 1) (q := 0) hx hb hK hP 12 rfl rfl h7 rfl dX1_band_74 ?_
      refine lv_iadd hx hb dX1_band_75 ?_
      obtain ⟨v8, ev8, hf⟩ := bq_lts hf
      refine bq_tope ev8 ?_
      refine lv_istore (lv' := [(5, .int v8), (0, .ref (ba 0)), (2, .int x2), (3, .int x3), (4, .int x4), (6, .int x6)]) hx hb dX1_band_76 hl (by decide) rfl (fun ls hl => ?_)
      obtain ⟨v9, ev9, hf⟩ := bq_lts hf
      refine lv_iinc (v := v9) (lv' := [(6, .int v9), (5, .int v8), (0, .ref (ba 0)), (2, .int x2), (3, .int x3), (4, .int x4)]) hx hb dX1_band_78 hl (k := 5) rfl (bq_inc (by decide) ev9) (by decide) rfl (fun ls hl => ?_)
      refine lv_goto (tgt := 40) hx hb dX1_band_81 (by decide) ?_
      exact ih _ _ _ _ _ _ hf hP hD hS ls (lv_sub hl [2, 3, 4, 5, 1, 0] rfl) hk0
set_option maxHeartbeats 4000000 in
theorem wk_bl_band_L22 {p : Program} {e : Env} {R : Room} {s : State} {m : MethodId} {args : Array Value} {below : List Frame} {meth : Method} {c : Code} {A : Nat → Prop} {kc ks : Nat} {Q : State → Prop} {l : Launch} {D : va_G} {am : bqAm} {X vE sE : Nat → Nat} {d : Nat → ClassId} {ba ca ia ka na ta : Nat → Nat} {dy fa : Option Nat} {L : Nat} {mc : Int32} {P : va_W} {F : Nat} {E : bqE} (C : bq_C p R s m args meth c A D bqCl (bqTy d) am cX1_band 7 RX1 805 24152) (hkc : kc ≤ R.cells) (hks : ks ≤ R.slots) (hamb : bq_Amb am X vE sE) (hst : l.stackTraces = false) (hE : bq_E P vE dy fa E) (hby : bq_By l D am d ca vE P 400) (hL : E.1 ≤ L ∧ L < 2147483648) {β : bqS} {σ : bqS} {τ : bqS} {ν : bqS} {κ : bqS} :
    ∀ (k : Nat) (x2 : Int32) (x3 : Int32) (x4 : Int32) (y2 : Int32) (H : Heap) (locs : List Loc), bl_band_L22 F E β σ τ ν κ k x2 x3 x4 = some y2 → va_P D bqCl (List.flatten ([bbB d ba ca na ta ka ia β, stB d na σ, stB d ta τ, viB d ca ν, coB d ca dy fa κ, lsB d ca L mc E.1, giB ca E.1 κ, P] : List va_W)) H → va_D A (List.flatten ([bbB d ba ca na ta ka ia β, stB d na σ, stB d ta τ, viB d ca ν, coB d ca dy fa κ, lsB d ca L mc E.1, giB ca E.1 κ, P] : List va_W)) → va_S A s.heap H locs → ∀ ls : Array Slot, lv_has ls 7 [(0, .ref (ba 0)), (2, .int x2), (3, .int x3), (4, .int x4)] →
      (∀ (H : Heap) (locs : List Loc), va_P D bqCl (List.flatten ([bbB d ba ca na ta ka ia β, stB d na σ, stB d ta τ, viB d ca ν, coB d ca dy fa κ, lsB d ca L mc E.1, giB ca E.1 κ, P] : List va_W)) H → va_D A (List.flatten ([bbB d ba ca na ta ka ia β, stB d na σ, stB d ta τ, viB d ca ν, coB d ca dy fa κ, lsB d ca L mc E.1, giB ca E.1 κ, P] : List va_W)) → va_S A s.heap H locs → ∀ ls : Array Slot, lv_has ls 7 [(2, .int y2)] → W p l e R s m args below meth c H locs kc ks Q (F0 m 105 ls [])) →
      W p l e R s m args below meth c H locs kc ks Q (F0 m 22 ls []) := by
  have C0 := C
  obtain ⟨hx, hb, hown, hts, hml, hlocks, hA, hK, hm, hRf, hRl, hok⟩ := C
  have C := C0
  intro k
  induction k with
  | zero => intro x2 x3 x4 y2 H locs hf
            cases hf
  | succ k ih =>
    intro x2 x3 x4 y2 H locs hf hP hD hS ls hl hk0
    rw [bl_band_L22] at hf
    refine lv_iload hx hb dX1_band_22 (lv_at hl 3 rfl) ?_
    refine lv_aload_n hx hb dX1_band_24 rfl (lv_at hl 0 rfl) ?_
    refine gX1_get (own := RX1) (fs := (bbF ba ca na ta ka ia β)) (v := .ref (ca 0)) hx hb hts hown hK hP (q0 := 0) rfl 0 (Nat.le_of_ble_eq_true rfl) (hts _ q755) rfl dX1_band_25 ?_
    refine gX2_getN (own := RX1) (host := "BlueBag") (fs := (coF ca dy fa κ)) (v := .int (κ 0 1)) hx hb hts hown hK hP (q0 := 18) rfl 1 (Nat.le_of_ble_eq_true rfl) (bq_nF hamb hm 19 rfl) rfl dX1_band_28 ?_
    refine lv_icmp_ge (tgt := 105) hx hb dX1_band_31 (by decide) (fun c5 => ?_) (fun c5 => ?_)
    · have hf := bq_ip c5 hf
      obtain rfl := Option.some.inj hf
      exact hk0 _ _ hP hD hS ls (lv_sub hl [1] rfl)
    · have hf := bq_in c5 hf
      refine lv_iconst (v := (0 : Int32)) hx hb dX1_band_34 (by decide) ?_
      refine lv_istore (lv' := [(5, .int (0 : Int32)), (0, .ref (ba 0)), (2, .int x2), (3, .int x3), (4, .int x4)]) hx hb dX1_band_35 hl (by decide) rfl (fun ls hl => ?_)
      refine lv_iconst (v := (0 : Int32)) hx hb dX1_band_37 (by decide) ?_
      refine lv_istore (lv' := [(6, .int (0 : Int32)), (5, .int (0 : Int32)), (0, .ref (ba 0)), (2, .int x2), (3, .int x3), (4, .int x4)]) hx hb dX1_band_38 hl (by decide) rfl (fun ls hl => ?_)
      obtain ⟨v10, hg, hf⟩ := bq_b1s hf
      refine wk_bl_band_L40 C hkc hks hamb hst hE hby hL _ _ _ _ _ _ _ hg hP hD hS ls (lv_sub hl [2, 3, 4, 5, 1, 0] rfl) ?_
      · intro H locs hP hD hS ls hl
        refine lv_iload hx hb dX1_band_84 (lv_at hl 4 rfl) ?_
        refine lv_iload_n hx hb dX1_band_86 rfl (lv_at hl 2 rfl) ?_
        refine lv_icmp_gt (tgt := 93) hx hb dX1_band_87 (by decide) (fun c11 => ?_) (fun c11 => ?_)
        · have hf := bq_ip c11 hf
          refine lv_iload hx hb dX1_band_93 (lv_at hl 3 rfl) ?_
          refine lv_istore_n (lv' := [(2, .int x4), (0, .ref (ba 0)), (3, .int x3), (4, .int x4), (5, .int v10)]) hx hb dX1_band_95 rfl hl (by decide) rfl (fun ls hl => ?_)
          refine lv_iload hx hb dX1_band_96 (lv_at hl 4 rfl) ?_
          refine lv_istore_n (lv' := [(3, .int v10), (2, .int x4), (0, .ref (ba 0)), (4, .int x4), (5, .int v10)]) hx hb dX1_band_98 rfl hl (by decide) rfl (fun ls hl => ?_)
          obtain ⟨v12, ev12, hf⟩ := bq_lts hf
          refine lv_iinc (v := v12) (lv' := [(4, .int v12), (3, .int v10), (2, .int x4), (0, .ref (ba 0)), (5, .int v10)]) hx hb dX1_band_99 hl (k := 3) rfl (bq_inc (by decide) ev12) (by decide) rfl (fun ls hl => ?_)
          refine lv_goto (tgt := 22) hx hb dX1_band_102 (by decide) ?_
          exact ih _ _ _ _ _ _ hf hP hD hS ls (lv_sub hl [3, 2, 1, 0] rfl) hk0
        · have hf := bq_in c11 hf
          refine lv_goto (tgt := 99) hx hb dX1_band_90 (by decide) ?_
          obtain ⟨v13, ev13, hf⟩ := bq_lts hf
          refine lv_iinc (v := v13) (lv' := [(4, .int v13), (0, .ref (ba 0)), (2, .int x2), (3, .int x3), (5, .int v10)]) hx hb dX1_band_99 hl (k := 3) rfl (bq_inc (by decide) ev13) (by decide) rfl (fun ls hl => ?_)
          refine lv_goto (tgt := 22) hx hb dX1_band_102 (by decide) ?_
          exact ih _ _ _ _ _ _ hf hP hD hS ls (lv_sub hl [1, 2, 3, 0] rfl) hk0
set_option maxHeartbeats 4000000 in
theorem met_bl_band {l : Launch} {D : va_G} {am : bqAm} {X vE sE : Nat → Nat} {d : Nat → ClassId} {ba ca ia ka na ta : Nat → Nat} {dy fa : Option Nat} {L : Nat} {mc : Int32} {P : va_W} {F : Nat} {E : bqE} {β : bqS} {σ : bqS} {τ : bqS} {ν : bqS} {κ : bqS} {τ' : bqS} {ν' : bqS} {r : Int32} {tg : Nat} {x1 : Int32} (hok : bq_Ok am) (hamb : bq_Amb am X vE sE) (hst : l.stackTraces = false) (hE : bq_E P vE dy fa E) (hby : bq_By l D am d ca vE P 400) (hL : E.1 ≤ L ∧ L < 2147483648) (hf : bl_band F E β σ τ ν κ x1 = some (tg, r, τ', ν')) : bq_X l yX1_band cX1_band 7 (some .int) 805 24152 1 6 D bqCl (bqTy d) am [.ref (ba 0), .int x1] (List.flatten ([bbB d ba ca na ta ka ia β, stB d na σ, stB d ta τ, viB d ca ν, coB d ca dy fa κ, lsB d ca L mc E.1, giB ca E.1 κ, P] : List va_W)) tg (some (.int r)) (List.flatten ([bbB d ba ca na ta ka ia β, stB d na σ, stB d ta τ', viB d ca ν', coB d ca dy fa κ, lsB d ca L mc E.1, giB ca E.1 κ, P] : List va_W)) := by
  unfold bl_band at hf
  refine bq_ofX hok (by decide +kernel) (Nat.le_of_ble_eq_true rfl) ?_
  intro p e s m below meth c A ls C hr hex hP hD hS hl
  have C0 := C
  obtain ⟨hx, hb, hown, hts, hml, hlocks, hA, hK, hm, hRf, hRl, hok⟩ := C
  have C := C0
  have hkc := Nat.zero_le 1
  have hks := Nat.zero_le 6
  have hl : lv_has ls 7 [(0, .ref (ba 0)), (1, .int x1)] := hl
  refine lv_iload_n hx hb dX1_band_0 rfl (lv_at hl 1 rfl) ?_
  refine lv_iconst (v := (0 : Int32)) hx hb dX1_band_1 (by decide) ?_
  refine lv_bipush (v := (40 : Int32)) hx hb dX1_band_2 (by decide) ?_
  obtain ⟨v1, hg, hf⟩ := bq_b1s hf
  refine bq_cS (bs := [bbB d ba ca na ta ka ia β, stB d na σ, stB d ta τ, viB d ca ν, coB d ca dy fa κ, lsB d ca L mc E.1, giB ca E.1 κ, P]) (bc := []) (br := [bbB d ba ca na ta ka ia β, stB d na σ, stB d ta τ, viB d ca ν, coB d ca dy fa κ, lsB d ca L mc E.1, giB ca E.1 κ, P]) (bc' := []) (bs' := [bbB d ba ca na ta ka ia β, stB d na σ, stB d ta τ, viB d ca ν, coB d ca dy fa κ, lsB d ca L mc E.1, giB ca E.1 κ, P]) (As := [.int x1, .int (0 : Int32), .int (40 : Int32)]) (rest := []) (o := (some (.int v1))) C hkc hks (met_bl_within hok hg) (bq_pm [0, 1, 2, 3, 4, 5, 6, 7] rfl rfl rfl) (bq_pm [0, 1, 2, 3, 4, 5, 6, 7] rfl rfl rfl) (lw_S q814 q815 q113 q816) (hd_X1_within) (Nat.le_of_ble_eq_true rfl) (Nat.le_of_ble_eq_true rfl) rfl hl.1 rfl (Nat.le_of_ble_eq_true rfl) dX1_band_4 hP hD hS (fun H locs hP hD hS => ?_)
  obtain ⟨t2, hg, hf⟩ := bq_b1s hf
  refine bq_cSX (bs := [bbB d ba ca na ta ka ia β, stB d na σ, stB d ta τ, viB d ca ν, coB d ca dy fa κ, lsB d ca L mc E.1, giB ca E.1 κ, P]) (bc := []) (br := [bbB d ba ca na ta ka ia β, stB d na σ, stB d ta τ, viB d ca ν, coB d ca dy fa κ, lsB d ca L mc E.1, giB ca E.1 κ, P]) (bc' := []) (bs' := [bbB d ba ca na ta ka ia β, stB d na σ, stB d ta τ, viB d ca ν, coB d ca dy fa κ, lsB d ca L mc E.1, giB ca E.1 κ, P]) (As := [.int v1]) (rest := []) (o := none) C (Nat.le_of_ble_eq_true rfl) (Nat.le_of_ble_eq_true rfl) (met_bl_right hok hamb hst hg) (bq_pm [0, 1, 2, 3, 4, 5, 6, 7] rfl rfl rfl) (bq_pm [0, 1, 2, 3, 4, 5, 6, 7] rfl rfl rfl) (lw_S q1021 q1022 q113 q1023) (hd_X1_right) (Nat.le_of_ble_eq_true rfl) (Nat.le_of_ble_eq_true rfl) rfl hl.1 rfl (Nat.le_of_ble_eq_true rfl) dX1_band_7 hP hD hS (fun ht_ H locs hP hD hS => ?_) (fun ht_ => ?_)
  · have hf := bq_ip ht_ hf
    have hkc : 1 ≤ 1 := by decide
    have hks : 6 ≤ 6 := by decide
    refine lv_aload_n hx hb dX1_band_10 rfl (lv_at hl 0 rfl) ?_
    refine lv_iload_n hx hb dX1_band_11 rfl (lv_at hl 1 rfl) ?_
    obtain ⟨τ3, ν4, hg, hf⟩ := bq_b2s hf
    refine bq_cV (bs := [bbB d ba ca na ta ka ia β, stB d na σ, stB d ta τ, viB d ca ν, coB d ca dy fa κ, lsB d ca L mc E.1, giB ca E.1 κ, P]) (bc := [bbB d ba ca na ta ka ia β, stB d na σ, stB d ta τ, viB d ca ν, coB d ca dy fa κ, lsB d ca L mc E.1, giB ca E.1 κ, P]) (br := []) (bc' := [bbB d ba ca na ta ka ia β, stB d na σ, stB d ta τ3, viB d ca ν4, coB d ca dy fa κ, lsB d ca L mc E.1, giB ca E.1 κ, P]) (bs' := [bbB d ba ca na ta ka ia β, stB d na σ, stB d ta τ3, viB d ca ν4, coB d ca dy fa κ, lsB d ca L mc E.1, giB ca E.1 κ, P]) (As := [.int x1]) (rest := []) (o := none) C hkc hks (met_bl_tries hok hamb hE hby hL hg) (bq_pm [0, 1, 2, 3, 4, 5, 6, 7] rfl rfl rfl) (bq_pm [0, 1, 2, 3, 4, 5, 6, 7] rfl rfl rfl) (lw_V q959 q961 qs10 q113 q962) (hd_X1_tries) (Nat.le_of_ble_eq_true rfl) (Nat.le_of_ble_eq_true rfl) (va_recv hK hP (ci := 1) (q0 := 0) rfl rfl) rfl hl.1 rfl (Nat.le_of_ble_eq_true rfl) dX1_band_12 hP hD hS (fun H locs hP hD hS => ?_)
    refine lv_iconst (v := (0 : Int32)) hx hb dX1_band_15 (by decide) ?_
    refine lv_istore_n (lv' := [(2, .int (0 : Int32)), (0, .ref (ba 0)), (1, .int x1)]) hx hb dX1_band_16 rfl hl (by decide) rfl (fun ls hl => ?_)
    refine lv_iconst (v := (-1 : Int32)) hx hb dX1_band_17 (by decide) ?_
    refine lv_istore_n (lv' := [(3, .int (-1 : Int32)), (2, .int (0 : Int32)), (0, .ref (ba 0)), (1, .int x1)]) hx hb dX1_band_18 rfl hl (by decide) rfl (fun ls hl => ?_)
    refine lv_iconst (v := (0 : Int32)) hx hb dX1_band_19 (by decide) ?_
    refine lv_istore (lv' := [(4, .int (0 : Int32)), (3, .int (-1 : Int32)), (2, .int (0 : Int32)), (0, .ref (ba 0)), (1, .int x1)]) hx hb dX1_band_20 hl (by decide) rfl (fun ls hl => ?_)
    obtain ⟨v14, hg, hf⟩ := bq_b1s hf
    refine wk_bl_band_L22 C hkc hks hamb hst hE hby hL _ _ _ _ _ _ _ hg hP hD hS ls (lv_sub hl [3, 2, 1, 0] rfl) ?_
    · intro H locs hP hD hS ls hl
      refine lv_iload_n hx hb dX1_band_105 rfl (lv_at hl 0 rfl) ?_
      obtain ⟨rfl, rfl, rfl, rfl⟩ := bq_p4 hf
      exact bq_iretX C hr (by decide) (by decide) hP hD hS dX1_band_106
  · have hf := bq_in ht_ hf
    obtain ⟨rfl, rfl, rfl, rfl⟩ := bq_p4 hf
    exact bq_prop C hex ht_ (by decide) (by decide)
set_option maxHeartbeats 4000000 in
theorem wk_bl_steady_L46 {p : Program} {e : Env} {R : Room} {s : State} {m : MethodId} {args : Array Value} {below : List Frame} {meth : Method} {c : Code} {A : Nat → Prop} {kc ks : Nat} {Q : State → Prop} {l : Launch} {D : va_G} {am : bqAm} {X vE sE : Nat → Nat} {d : Nat → ClassId} {ba ca ia ka na ta : Nat → Nat} {dy fa : Option Nat} {L : Nat} {mc : Int32} {P : va_W} {F : Nat} {E : bqE} (C : bq_C p R s m args meth c A D bqCl (bqTy d) am cX1_steady 4 RX1 805 24152) (hkc : kc ≤ R.cells) (hks : ks ≤ R.slots) (hamb : bq_Amb am X vE sE) (hE : bq_E P vE dy fa E) (hby : bq_By l D am d ca vE P 400) (hL : E.1 ≤ L ∧ L < 2147483648) {β : bqS} {σ : bqS} {τ : bqS} {ν : bqS} {κ : bqS} {x1 : Int32} :
    ∀ (k : Nat) (x2 : Int32) (x3 : Int32) (y2 : Int32) (H : Heap) (locs : List Loc), bl_steady_L46 F E β σ τ ν κ k x2 x3 = some y2 → va_P D bqCl (List.flatten ([bbB d ba ca na ta ka ia β, stB d na σ, stB d ta τ, viB d ca ν, coB d ca dy fa κ, lsB d ca L mc E.1, giB ca E.1 κ, P] : List va_W)) H → va_D A (List.flatten ([bbB d ba ca na ta ka ia β, stB d na σ, stB d ta τ, viB d ca ν, coB d ca dy fa κ, lsB d ca L mc E.1, giB ca E.1 κ, P] : List va_W)) → va_S A s.heap H locs → ∀ ls : Array Slot, lv_has ls 4 [(0, .ref (ba 0)), (1, .int x1), (2, .int x2), (3, .int x3)] →
      (∀ (H : Heap) (locs : List Loc), va_P D bqCl (List.flatten ([bbB d ba ca na ta ka ia β, stB d na σ, stB d ta τ, viB d ca ν, coB d ca dy fa κ, lsB d ca L mc E.1, giB ca E.1 κ, P] : List va_W)) H → va_D A (List.flatten ([bbB d ba ca na ta ka ia β, stB d na σ, stB d ta τ, viB d ca ν, coB d ca dy fa κ, lsB d ca L mc E.1, giB ca E.1 κ, P] : List va_W)) → va_S A s.heap H locs → ∀ ls : Array Slot, lv_has ls 4 [(0, .ref (ba 0)), (1, .int x1), (2, .int y2)] → W p l e R s m args below meth c H locs kc ks Q (F0 m 86 ls [])) →
      W p l e R s m args below meth c H locs kc ks Q (F0 m 46 ls []) := by
  have C0 := C
  obtain ⟨hx, hb, hown, hts, hml, hlocks, hA, hK, hm, hRf, hRl, hok⟩ := C
  have C := C0
  intro k
  induction k with
  | zero => intro x2 x3 y2 H locs hf
            cases hf
  | succ k ih =>
    intro x2 x3 y2 H locs hf hP hD hS ls hl hk0
    rw [bl_steady_L46] at hf
    refine lv_iload_n hx hb dX1_steady_46 rfl (lv_at hl 3 rfl) ?_
    refine lv_aload_n hx hb dX1_steady_47 rfl (lv_at hl 0 rfl) ?_
    obtain ⟨v7, hg, hf⟩ := bq_b1s hf
    refine bq_cV (bs := [bbB d ba ca na ta ka ia β, stB d na σ, stB d ta τ, viB d ca ν, coB d ca dy fa κ, lsB d ca L mc E.1, giB ca E.1 κ, P]) (bc := [bbB d ba ca na ta ka ia β, coB d ca dy fa κ]) (br := [stB d na σ, stB d ta τ, viB d ca ν, lsB d ca L mc E.1, giB ca E.1 κ, P]) (bc' := [bbB d ba ca na ta ka ia β, coB d ca dy fa κ]) (bs' := [bbB d ba ca na ta ka ia β, stB d na σ, stB d ta τ, viB d ca ν, coB d ca dy fa κ, lsB d ca L mc E.1, giB ca E.1 κ, P]) (As := []) (rest := [.int x3]) (o := (some (.int v7))) C hkc hks (met_bl_cells hok hamb hg) (bq_pm [0, 4, 1, 2, 3, 5, 6, 7] rfl rfl rfl) (bq_pm [0, 2, 3, 4, 1, 5, 6, 7] rfl rfl rfl) (lw_V q990 q992 qs13 q113 q993) (hd_X1_cells) (Nat.le_of_ble_eq_true rfl) (Nat.le_of_ble_eq_true rfl) (va_recv hK hP (ci := 1) (q0 := 0) rfl rfl) rfl hl.1 rfl (Nat.le_of_ble_eq_true rfl) dX1_steady_48 hP hD hS (fun H locs hP hD hS => ?_)
    refine lv_icmp_ge (tgt := 86) hx hb dX1_steady_51 (by decide) (fun c8 => ?_) (fun c8 => ?_)
    · have hf := bq_ip c8 hf
      obtain rfl := Option.some.inj hf
      exact hk0 _ _ hP hD hS ls (lv_sub hl [0, 1, 2] rfl)
    · have hf := bq_in c8 hf
      refine lv_iload_n hx hb dX1_steady_54 rfl (lv_at hl 2 rfl) ?_
      refine lv_aload_n hx hb dX1_steady_55 rfl (lv_at hl 0 rfl) ?_
      refine gX1_get (own := RX1) (fs := (bbF ba ca na ta ka ia β)) (v := .ref (ta 0)) hx hb hts hown hK hP (q0 := 0) rfl 4 (Nat.le_of_ble_eq_true rfl) (hts _ q759) rfl dX1_steady_56 ?_
      refine gX6_getN (own := RX1) (host := "BlueBag") (fs := (stF ta τ)) (v := .ref (ta 1)) hx hb hts hown hK hP (q0 := 11) rfl 0 (Nat.le_of_ble_eq_true rfl) (bq_nF hamb hm 15 rfl) rfl dX1_steady_59 ?_
      refine lv_iload_n hx hb dX1_steady_62 rfl (lv_at hl 3 rfl) ?_
      obtain ⟨h9, hf⟩ := bq_cks hf
      refine bq_ild (j := x3.toNatClampNeg) (f := τ 1) (q := 0) hx hb hK hP 12 rfl rfl h9 rfl dX1_steady_63 ?_
      refine lv_aload_n hx hb dX1_steady_64 rfl (lv_at hl 0 rfl) ?_
      refine gX1_get (own := RX1) (fs := (bbF ba ca na ta ka ia β)) (v := .ref (ba 4)) hx hb hts hown hK hP (q0 := 0) rfl 11 (Nat.le_of_ble_eq_true rfl) (hts _ q766) rfl dX1_steady_65 ?_
      refine lv_iload_n hx hb dX1_steady_68 rfl (lv_at hl 3 rfl) ?_
      obtain ⟨h10, hf⟩ := bq_cks hf
      refine bq_ild (j := x3.toNatClampNeg) (f := β 4) (q := 0) hx hb hK hP 4 rfl rfl h10 rfl dX1_steady_69 ?_
      refine lv_icmp_ne (tgt := 77) hx hb dX1_steady_70 (by decide) (fun c11 => ?_) (fun c11 => ?_)
      · have hf := bq_in c11 hf
        refine lv_iconst (v := (0 : Int32)) hx hb dX1_steady_77 (by decide) ?_
        refine lv_iand hx hb dX1_steady_78 ?_
        obtain ⟨v12, ev12, hf⟩ := bq_lts hf
        refine bq_tope ev12 ?_
        refine lv_istore_n (lv' := [(2, .int v12), (0, .ref (ba 0)), (1, .int x1), (3, .int x3)]) hx hb dX1_steady_79 rfl hl (by decide) rfl (fun ls hl => ?_)
        obtain ⟨v13, ev13, hf⟩ := bq_lts hf
        refine lv_iinc (v := v13) (lv' := [(3, .int v13), (2, .int v12), (0, .ref (ba 0)), (1, .int x1)]) hx hb dX1_steady_80 hl (k := 3) rfl (bq_inc (by decide) ev13) (by decide) rfl (fun ls hl => ?_)
        refine lv_goto (tgt := 46) hx hb dX1_steady_83 (by decide) ?_
        exact ih _ _ _ _ _ hf hP hD hS ls (lv_sub hl [2, 3, 1, 0] rfl) hk0
      · have hf := bq_ip c11 hf
        refine lv_iconst (v := (1 : Int32)) hx hb dX1_steady_73 (by decide) ?_
        refine lv_goto (tgt := 78) hx hb dX1_steady_74 (by decide) ?_
        refine lv_iand hx hb dX1_steady_78 ?_
        obtain ⟨v14, ev14, hf⟩ := bq_lts hf
        refine bq_tope ev14 ?_
        refine lv_istore_n (lv' := [(2, .int v14), (0, .ref (ba 0)), (1, .int x1), (3, .int x3)]) hx hb dX1_steady_79 rfl hl (by decide) rfl (fun ls hl => ?_)
        obtain ⟨v15, ev15, hf⟩ := bq_lts hf
        refine lv_iinc (v := v15) (lv' := [(3, .int v15), (2, .int v14), (0, .ref (ba 0)), (1, .int x1)]) hx hb dX1_steady_80 hl (k := 3) rfl (bq_inc (by decide) ev15) (by decide) rfl (fun ls hl => ?_)
        refine lv_goto (tgt := 46) hx hb dX1_steady_83 (by decide) ?_
        exact ih _ _ _ _ _ hf hP hD hS ls (lv_sub hl [2, 3, 1, 0] rfl) hk0
set_option maxHeartbeats 4000000 in
theorem wk_bl_steady_L7 {p : Program} {e : Env} {R : Room} {s : State} {m : MethodId} {args : Array Value} {below : List Frame} {meth : Method} {c : Code} {A : Nat → Prop} {kc ks : Nat} {Q : State → Prop} {l : Launch} {D : va_G} {am : bqAm} {X vE sE : Nat → Nat} {d : Nat → ClassId} {ba ca ia ka na ta : Nat → Nat} {dy fa : Option Nat} {L : Nat} {mc : Int32} {P : va_W} {F : Nat} {E : bqE} (C : bq_C p R s m args meth c A D bqCl (bqTy d) am cX1_steady 4 RX1 805 24152) (hkc : kc ≤ R.cells) (hks : ks ≤ R.slots) (hamb : bq_Amb am X vE sE) (hE : bq_E P vE dy fa E) (hby : bq_By l D am d ca vE P 400) (hL : E.1 ≤ L ∧ L < 2147483648) {σ : bqS} {κ : bqS} :
    ∀ (k : Nat) (x1 : Int32) (β : bqS) (τ : bqS) (ν : bqS) (tg : Nat) (y1 : Int32) (β' : bqS) (τ' : bqS) (ν' : bqS) (H : Heap) (locs : List Loc), bl_steady_L7 F E σ κ k x1 β τ ν = some (tg, y1, β', τ', ν') → va_P D bqCl (List.flatten ([bbB d ba ca na ta ka ia β, stB d na σ, stB d ta τ, viB d ca ν, coB d ca dy fa κ, lsB d ca L mc E.1, giB ca E.1 κ, P] : List va_W)) H → va_D A (List.flatten ([bbB d ba ca na ta ka ia β, stB d na σ, stB d ta τ, viB d ca ν, coB d ca dy fa κ, lsB d ca L mc E.1, giB ca E.1 κ, P] : List va_W)) → va_S A s.heap H locs → ∀ ls : Array Slot, lv_has ls 4 [(0, .ref (ba 0)), (1, .int x1)] →
      (tg = 0 → ∀ (H : Heap) (locs : List Loc), va_P D bqCl (List.flatten ([bbB d ba ca na ta ka ia β', stB d na σ, stB d ta τ', viB d ca ν', coB d ca dy fa κ, lsB d ca L mc E.1, giB ca E.1 κ, P] : List va_W)) H → va_D A (List.flatten ([bbB d ba ca na ta ka ia β', stB d na σ, stB d ta τ', viB d ca ν', coB d ca dy fa κ, lsB d ca L mc E.1, giB ca E.1 κ, P] : List va_W)) → va_S A s.heap H locs → ∀ ls : Array Slot, lv_has ls 4 [(1, .int y1)] → W p l e R s m args below meth c H locs kc ks Q (F0 m 90 ls [])) →
      (tg = 1 → ∀ (H : Heap) (locs : List Loc), va_P D bqCl (List.flatten ([bbB d ba ca na ta ka ia β', stB d na σ, stB d ta τ', viB d ca ν', coB d ca dy fa κ, lsB d ca L mc E.1, giB ca E.1 κ, P] : List va_W)) H → va_D A (List.flatten ([bbB d ba ca na ta ka ia β', stB d na σ, stB d ta τ', viB d ca ν', coB d ca dy fa κ, lsB d ca L mc E.1, giB ca E.1 κ, P] : List va_W)) → va_S A s.heap H locs → ∀ ls : Array Slot, lv_has ls 4 [] → W p l e R s m args below meth c H locs kc ks Q (F0 m 98 ls [])) →
      W p l e R s m args below meth c H locs kc ks Q (F0 m 7 ls []) := by
  have C0 := C
  obtain ⟨hx, hb, hown, hts, hml, hlocks, hA, hK, hm, hRf, hRl, hok⟩ := C
  have C := C0
  intro k
  induction k with
  | zero => intro x1 β τ ν tg y1 β' τ' ν' H locs hf
            cases hf
  | succ k ih =>
    intro x1 β τ ν tg y1 β' τ' ν' H locs hf hP hD hS ls hl hk0 hk1
    rw [bl_steady_L7] at hf
    refine lv_iload_n hx hb dX1_steady_7 rfl (lv_at hl 1 rfl) ?_
    refine lv_bipush (v := (40 : Int32)) hx hb dX1_steady_8 (by decide) ?_
    refine lv_icmp_gt (tgt := 98) hx hb dX1_steady_10 (by decide) (fun c3 => ?_) (fun c3 => ?_)
    · have hf := bq_ip c3 hf
      obtain ⟨rfl, rfl, rfl, rfl, rfl⟩ := bq_p5 hf
      exact hk1 rfl _ _ hP hD hS ls (lv_sub hl [] rfl)
    · have hf := bq_in c3 hf
      refine lv_aload_n hx hb dX1_steady_13 rfl (lv_at hl 0 rfl) ?_
      refine gX1_get (own := RX1) (fs := (bbF ba ca na ta ka ia β)) (v := .ref (ta 0)) hx hb hts hown hK hP (q0 := 0) rfl 4 (Nat.le_of_ble_eq_true rfl) (hts _ q759) rfl dX1_steady_14 ?_
      refine gX6_getN (own := RX1) (host := "BlueBag") (fs := (stF ta τ)) (v := .ref (ta 1)) hx hb hts hown hK hP (q0 := 11) rfl 0 (Nat.le_of_ble_eq_true rfl) (bq_nF hamb hm 15 rfl) rfl dX1_steady_17 ?_
      refine lv_iconst (v := (0 : Int32)) hx hb dX1_steady_20 (by decide) ?_
      refine lv_aload_n hx hb dX1_steady_21 rfl (lv_at hl 0 rfl) ?_
      refine gX1_get (own := RX1) (fs := (bbF ba ca na ta ka ia β)) (v := .ref (ba 4)) hx hb hts hown hK hP (q0 := 0) rfl 11 (Nat.le_of_ble_eq_true rfl) (hts _ q766) rfl dX1_steady_22 ?_
      refine lv_iconst (v := (0 : Int32)) hx hb dX1_steady_25 (by decide) ?_
      refine lv_bipush (v := (30 : Int32)) hx hb dX1_steady_26 (by decide) ?_
      obtain ⟨β4, eβ4, hf⟩ := bq_lts hf
      refine bq_acopy (u := 30) (v := 0) (f := τ 1) (g := β 4) (ws' := (List.flatten ([bbB d ba ca na ta ka ia (va_up β 4 (va_cpy (τ 1) (β 4) 0 0 30)), stB d na σ, stB d ta τ, viB d ca ν, coB d ca dy fa κ, lsB d ca L mc E.1, giB ca E.1 κ, P] : List va_W))) hx hb (hml.trans hl.1.symm) hown (hts _ q989) (hts _ q302) (hts _ q301) (hts _ q129) hK hP hD hS 12 4 rfl rfl rfl (by decide) (by decide) (by decide) (by decide) (by decide) (by decide) (Nat.le_trans (Nat.le_of_ble_eq_true rfl) hRf) (Nat.le_trans (by decide +kernel) hRl) rfl dX1_steady_28 (fun H locs hP hD hS => ?_)
      rw [← eβ4] at hP hD
      refine lv_aload_n hx hb dX1_steady_31 rfl (lv_at hl 0 rfl) ?_
      refine gX1_get (own := RX1) (fs := (bbF ba ca na ta ka ia β4)) (v := .ref (ta 0)) hx hb hts hown hK hP (q0 := 0) rfl 4 (Nat.le_of_ble_eq_true rfl) (hts _ q759) rfl dX1_steady_32 ?_
      refine lv_aload_n hx hb dX1_steady_35 rfl (lv_at hl 0 rfl) ?_
      refine gX1_get (own := RX1) (fs := (bbF ba ca na ta ka ia β4)) (v := .ref (ca 0)) hx hb hts hown hK hP (q0 := 0) rfl 0 (Nat.le_of_ble_eq_true rfl) (hts _ q755) rfl dX1_steady_36 ?_
      obtain ⟨τ5, ν6, hg, hf⟩ := bq_b2s hf
      refine bq_cV (bs := [bbB d ba ca na ta ka ia β4, stB d na σ, stB d ta τ, viB d ca ν, coB d ca dy fa κ, lsB d ca L mc E.1, giB ca E.1 κ, P]) (bc := [stB d ta τ, viB d ca ν, coB d ca dy fa κ, lsB d ca L mc E.1, giB ca E.1 κ, P]) (br := [bbB d ba ca na ta ka ia β4, stB d na σ]) (bc' := [stB d ta τ5, viB d ca ν6, coB d ca dy fa κ, lsB d ca L mc E.1, giB ca E.1 κ, P]) (bs' := [bbB d ba ca na ta ka ia β4, stB d na σ, stB d ta τ5, viB d ca ν6, coB d ca dy fa κ, lsB d ca L mc E.1, giB ca E.1 κ, P]) (As := [.ref (ca 0)]) (rest := []) (o := none) C hkc hks (met_st_goes hok hamb hE hby hL hg) (bq_pm [2, 3, 4, 5, 6, 7, 0, 1] rfl rfl rfl) (bq_pm [6, 7, 0, 1, 2, 3, 4, 5] rfl rfl rfl) (lw_V q844 q845 q846 q138 q847) (hd_X6_goes) (Nat.le_of_ble_eq_true rfl) (Nat.le_of_ble_eq_true rfl) (va_recv hK hP (ci := 5) (q0 := 11) rfl rfl) rfl hl.1 rfl (Nat.le_of_ble_eq_true rfl) dX1_steady_39 hP hD hS (fun H locs hP hD hS => ?_)
      refine lv_iconst (v := (1 : Int32)) hx hb dX1_steady_42 (by decide) ?_
      refine lv_istore_n (lv' := [(2, .int (1 : Int32)), (0, .ref (ba 0)), (1, .int x1)]) hx hb dX1_steady_43 rfl hl (by decide) rfl (fun ls hl => ?_)
      refine lv_iconst (v := (0 : Int32)) hx hb dX1_steady_44 (by decide) ?_
      refine lv_istore_n (lv' := [(3, .int (0 : Int32)), (2, .int (1 : Int32)), (0, .ref (ba 0)), (1, .int x1)]) hx hb dX1_steady_45 rfl hl (by decide) rfl (fun ls hl => ?_)
      obtain ⟨v16, hg, hf⟩ := bq_b1s hf
      refine wk_bl_steady_L46 C hkc hks hamb hE hby hL _ _ _ _ _ _ hg hP hD hS ls (lv_sub hl [2, 3, 1, 0] rfl) ?_
      · intro H locs hP hD hS ls hl
        refine lv_iload_n hx hb dX1_steady_86 rfl (lv_at hl 2 rfl) ?_
        refine lv_if_eq (tgt := 92) hx hb dX1_steady_87 (by decide) (fun c17 => ?_) (fun c17 => ?_)
        · have hf := bq_ip c17 hf
          obtain ⟨v18, ev18, hf⟩ := bq_lts hf
          refine lv_iinc (v := v18) (lv' := [(1, .int v18), (0, .ref (ba 0)), (2, .int v16)]) hx hb dX1_steady_92 hl (k := 1) rfl (bq_inc (by decide) ev18) (by decide) rfl (fun ls hl => ?_)
          refine lv_goto (tgt := 7) hx hb dX1_steady_95 (by decide) ?_
          exact ih _ _ _ _ _ _ _ _ _ _ _ hf hP hD hS ls (lv_sub hl [1, 0] rfl) hk0 hk1
        · have hf := bq_in c17 hf
          obtain ⟨rfl, rfl, rfl, rfl, rfl⟩ := bq_p5 hf
          exact hk0 rfl _ _ hP hD hS ls (lv_sub hl [1] rfl)
set_option maxHeartbeats 4000000 in
theorem met_bl_steady {l : Launch} {D : va_G} {am : bqAm} {X vE sE : Nat → Nat} {d : Nat → ClassId} {ba ca ia ka na ta : Nat → Nat} {dy fa : Option Nat} {L : Nat} {mc : Int32} {P : va_W} {F : Nat} {E : bqE} {β : bqS} {σ : bqS} {τ : bqS} {ν : bqS} {κ : bqS} {β' : bqS} {τ' : bqS} {ν' : bqS} {r : Int32} (hok : bq_Ok am) (hamb : bq_Amb am X vE sE) (hE : bq_E P vE dy fa E) (hby : bq_By l D am d ca vE P 400) (hL : E.1 ≤ L ∧ L < 2147483648) (hf : bl_steady F E β σ τ ν κ = some (r, β', τ', ν')) : bq_M l yX1_steady cX1_steady 4 (some .int) 805 24152 D bqCl (bqTy d) am [.ref (ba 0)] (List.flatten ([bbB d ba ca na ta ka ia β, stB d na σ, stB d ta τ, viB d ca ν, coB d ca dy fa κ, lsB d ca L mc E.1, giB ca E.1 κ, P] : List va_W)) (some (.int r)) (List.flatten ([bbB d ba ca na ta ka ia β', stB d na σ, stB d ta τ', viB d ca ν', coB d ca dy fa κ, lsB d ca L mc E.1, giB ca E.1 κ, P] : List va_W)) := by
  unfold bl_steady at hf
  refine bq_of hok (by decide +kernel) (Nat.le_of_ble_eq_true rfl) ?_
  intro p e s m below meth c A ls C hr hP hD hS hl
  have C0 := C
  obtain ⟨hx, hb, hown, hts, hml, hlocks, hA, hK, hm, hRf, hRl, hok⟩ := C
  have C := C0
  have hkc := Nat.zero_le 0
  have hks := Nat.zero_le 0
  have hl : lv_has ls 4 [(0, .ref (ba 0))] := hl
  refine lv_aload_n hx hb dX1_steady_0 rfl (lv_at hl 0 rfl) ?_
  refine lv_iconst (v := (0 : Int32)) hx hb dX1_steady_1 (by decide) ?_
  obtain ⟨τ1, ν2, hg, hf⟩ := bq_b2s hf
  refine bq_cV (bs := [bbB d ba ca na ta ka ia β, stB d na σ, stB d ta τ, viB d ca ν, coB d ca dy fa κ, lsB d ca L mc E.1, giB ca E.1 κ, P]) (bc := [bbB d ba ca na ta ka ia β, stB d na σ, stB d ta τ, viB d ca ν, coB d ca dy fa κ, lsB d ca L mc E.1, giB ca E.1 κ, P]) (br := []) (bc' := [bbB d ba ca na ta ka ia β, stB d na σ, stB d ta τ1, viB d ca ν2, coB d ca dy fa κ, lsB d ca L mc E.1, giB ca E.1 κ, P]) (bs' := [bbB d ba ca na ta ka ia β, stB d na σ, stB d ta τ1, viB d ca ν2, coB d ca dy fa κ, lsB d ca L mc E.1, giB ca E.1 κ, P]) (As := [.int (0 : Int32)]) (rest := []) (o := none) C hkc hks (met_bl_tries hok hamb hE hby hL hg) (bq_pm [0, 1, 2, 3, 4, 5, 6, 7] rfl rfl rfl) (bq_pm [0, 1, 2, 3, 4, 5, 6, 7] rfl rfl rfl) (lw_V q959 q961 qs10 q113 q962) (hd_X1_tries) (Nat.le_of_ble_eq_true rfl) (Nat.le_of_ble_eq_true rfl) (va_recv hK hP (ci := 1) (q0 := 0) rfl rfl) rfl hl.1 rfl (Nat.le_of_ble_eq_true rfl) dX1_steady_2 hP hD hS (fun H locs hP hD hS => ?_)
  refine lv_iconst (v := (1 : Int32)) hx hb dX1_steady_5 (by decide) ?_
  refine lv_istore_n (lv' := [(1, .int (1 : Int32)), (0, .ref (ba 0))]) hx hb dX1_steady_6 rfl hl (by decide) rfl (fun ls hl => ?_)
  obtain ⟨t19, v20, β21, τ22, ν23, hg, hf⟩ := bq_b5s hf
  refine wk_bl_steady_L7 C hkc hks hamb hE hby hL _ _ _ _ _ _ _ _ _ _ _ _ hg hP hD hS ls (lv_sub hl [1, 0] rfl) ?_ ?_
  · intro ht_
    intro H locs hP hD hS ls hl
    have hf := bq_ip ht_ hf
    refine lv_iload_n hx hb dX1_steady_90 rfl (lv_at hl 0 rfl) ?_
    obtain ⟨rfl, rfl, rfl, rfl⟩ := bq_p4 hf
    exact bq_iret C hr hP hD hS dX1_steady_91
  · intro ht_
    intro H locs hP hD hS ls hl
    have hf := bq_in (by rw [ht_]; decide) hf
    refine lv_iconst (v := (-1 : Int32)) hx hb dX1_steady_98 (by decide) ?_
    obtain ⟨rfl, rfl, rfl, rfl⟩ := bq_p4 hf
    exact bq_iret C hr hP hD hS dX1_steady_99
set_option maxHeartbeats 4000000 in
theorem met_bl_steps {l : Launch} {D : va_G} {am : bqAm} {X vE sE : Nat → Nat} {d : Nat → ClassId} {ba ca ia ka na ta : Nat → Nat} {dy fa : Option Nat} {L : Nat} {mc : Int32} {E : bqE} {β : bqS} {σ : bqS} {κ : bqS} {r : Int32} {tg : Nat} {x1 : Int32} {x2 : Int32} (hok : bq_Ok am) (hamb : bq_Amb am X vE sE) (hst : l.stackTraces = false) (hL : E.1 ≤ L ∧ L < 2147483648) (hf : bl_steps E β σ κ x1 x2 = some (tg, r)) : bq_X l yX1_steps cX1_steps 3 (some .int) 8 131 2 12 D bqCl (bqTy d) am [.ref (ba 0), .int x1, .int x2] (List.flatten ([bbB d ba ca na ta ka ia β, stB d na σ, coB d ca dy fa κ, lsB d ca L mc E.1, giB ca E.1 κ] : List va_W)) tg (some (.int r)) (List.flatten ([bbB d ba ca na ta ka ia β, stB d na σ, coB d ca dy fa κ, lsB d ca L mc E.1, giB ca E.1 κ] : List va_W)) := by
  unfold bl_steps at hf
  refine bq_ofX hok (by decide +kernel) (Nat.le_of_ble_eq_true rfl) ?_
  intro p e s m below meth c A ls C hr hex hP hD hS hl
  have C0 := C
  obtain ⟨hx, hb, hown, hts, hml, hlocks, hA, hK, hm, hRf, hRl, hok⟩ := C
  have C := C0
  have hkc := Nat.zero_le 2
  have hks := Nat.zero_le 12
  have hl : lv_has ls 3 [(0, .ref (ba 0)), (1, .int x1), (2, .int x2)] := hl
  refine lv_aload_n hx hb dX1_steps_0 rfl (lv_at hl 0 rfl) ?_
  refine lv_iload_n hx hb dX1_steps_1 rfl (lv_at hl 1 rfl) ?_
  obtain ⟨t1, hg, hf⟩ := bq_b1s hf
  refine bq_cVX (bs := [bbB d ba ca na ta ka ia β, stB d na σ, coB d ca dy fa κ, lsB d ca L mc E.1, giB ca E.1 κ]) (bc := [bbB d ba ca na ta ka ia β, coB d ca dy fa κ, lsB d ca L mc E.1, giB ca E.1 κ]) (br := [stB d na σ]) (bc' := [bbB d ba ca na ta ka ia β, coB d ca dy fa κ, lsB d ca L mc E.1, giB ca E.1 κ]) (bs' := [bbB d ba ca na ta ka ia β, stB d na σ, coB d ca dy fa κ, lsB d ca L mc E.1, giB ca E.1 κ]) (As := [.int x1]) (rest := []) (o := (some (.ref (ca (10 + x1.toNatClampNeg))))) C (Nat.le_of_ble_eq_true rfl) (Nat.le_of_ble_eq_true rfl) (met_bl_girlAt hok hamb hst hL hg) (bq_pm [0, 2, 3, 4, 1] rfl rfl rfl) (bq_pm [0, 4, 1, 2, 3] rfl rfl rfl) (lw_V q1444 q1446 qs38 q113 q1447) (hd_X1_girlAt) (Nat.le_of_ble_eq_true rfl) (Nat.le_of_ble_eq_true rfl) (va_recv hK hP (ci := 1) (q0 := 0) rfl rfl) rfl hl.1 rfl (Nat.le_of_ble_eq_true rfl) dX1_steps_2 hP hD hS (fun ht_ H locs hP hD hS => ?_) (fun ht_ => ?_)
  · have hf := bq_ip ht_ hf
    have hkc : 1 ≤ 2 := by decide
    have hks : 6 ≤ 12 := by decide
    have hg_ := hg
    rw [ht_] at hg_
    refine lv_pop hx hb dX1_steps_5 rfl ?_
    refine lv_aload_n hx hb dX1_steps_6 rfl (lv_at hl 0 rfl) ?_
    refine lv_iload_n hx hb dX1_steps_7 rfl (lv_at hl 2 rfl) ?_
    obtain ⟨t2, hg, hf⟩ := bq_b1s hf
    refine bq_cVX (bs := [bbB d ba ca na ta ka ia β, stB d na σ, coB d ca dy fa κ, lsB d ca L mc E.1, giB ca E.1 κ]) (bc := [bbB d ba ca na ta ka ia β, coB d ca dy fa κ]) (br := [stB d na σ, lsB d ca L mc E.1, giB ca E.1 κ]) (bc' := [bbB d ba ca na ta ka ia β, coB d ca dy fa κ]) (bs' := [bbB d ba ca na ta ka ia β, stB d na σ, coB d ca dy fa κ, lsB d ca L mc E.1, giB ca E.1 κ]) (As := [.int x2]) (rest := []) (o := none) C (Nat.le_of_ble_eq_true rfl) (Nat.le_of_ble_eq_true rfl) (met_bl_cellAt hok hamb hst hg) (bq_pm [0, 2, 1, 3, 4] rfl rfl rfl) (bq_pm [0, 2, 1, 3, 4] rfl rfl rfl) (lw_V q1423 q1425 qs35 q113 q1426) (hd_X1_cellAt) (Nat.le_of_ble_eq_true rfl) (Nat.le_of_ble_eq_true rfl) (va_recv hK hP (ci := 1) (q0 := 0) rfl rfl) rfl hl.1 rfl (Nat.le_of_ble_eq_true rfl) dX1_steps_8 hP hD hS (fun ht_ H locs hP hD hS => ?_) (fun ht_ => ?_)
    · have hf := bq_ip ht_ hf
      have hkc : 2 ≤ 2 := by decide
      have hks : 12 ≤ 12 := by decide
      refine lv_aload_n hx hb dX1_steps_11 rfl (lv_at hl 0 rfl) ?_
      refine gX1_get (own := RX1) (fs := (bbF ba ca na ta ka ia β)) (v := .ref (ca 0)) hx hb hts hown hK hP (q0 := 0) rfl 0 (Nat.le_of_ble_eq_true rfl) (hts _ q755) rfl dX1_steps_12 ?_
      refine lv_aload_n hx hb dX1_steps_15 rfl (lv_at hl 0 rfl) ?_
      refine gX1_get (own := RX1) (fs := (bbF ba ca na ta ka ia β)) (v := .ref (na 0)) hx hb hts hown hK hP (q0 := 0) rfl 3 (Nat.le_of_ble_eq_true rfl) (hts _ q758) rfl dX1_steps_16 ?_
      refine gX6_getN (own := RX1) (host := "BlueBag") (fs := (stF na σ)) (v := .ref (na 2)) hx hb hts hown hK hP (q0 := 6) rfl 1 (Nat.le_of_ble_eq_true rfl) (bq_nF hamb hm 16 rfl) rfl dX1_steps_19 ?_
      refine lv_iload_n hx hb dX1_steps_22 rfl (lv_at hl 1 rfl) ?_
      obtain ⟨h3, hf⟩ := bq_cks hf
      refine bq_ild (j := x1.toNatClampNeg) (f := σ 2) (q := 0) hx hb hK hP 8 rfl rfl h3 rfl dX1_steps_23 ?_
      refine lv_iload_n hx hb dX1_steps_24 rfl (lv_at hl 2 rfl) ?_
      obtain ⟨v4, hg, hf⟩ := bq_b1s hf
      refine bq_cV (bs := [bbB d ba ca na ta ka ia β, stB d na σ, coB d ca dy fa κ, lsB d ca L mc E.1, giB ca E.1 κ]) (bc := [coB d ca dy fa κ]) (br := [bbB d ba ca na ta ka ia β, stB d na σ, lsB d ca L mc E.1, giB ca E.1 κ]) (bc' := [coB d ca dy fa κ]) (bs' := [bbB d ba ca na ta ka ia β, stB d na σ, coB d ca dy fa κ, lsB d ca L mc E.1, giB ca E.1 κ]) (As := [.int (σ 2 x1.toNatClampNeg), .int x2]) (rest := []) (o := (some (.int v4))) C hkc hks (met_co_steps hok hamb hg) (bq_pm [2, 0, 1, 3, 4] rfl rfl rfl) (bq_pm [1, 2, 0, 3, 4] rfl rfl rfl) (lw_V q1431 q869 q870 q114 q871) (hd_X2_steps) (Nat.le_of_ble_eq_true rfl) (Nat.le_of_ble_eq_true rfl) (va_recv hK hP (ci := 2) (q0 := 11) rfl rfl) rfl hl.1 rfl (Nat.le_of_ble_eq_true rfl) dX1_steps_25 hP hD hS (fun H locs hP hD hS => ?_)
      obtain ⟨rfl, rfl⟩ := bq_p2 hf
      exact bq_iretX C hr (by decide) (by decide) hP hD hS dX1_steps_28
    · have hf := bq_in ht_ hf
      obtain ⟨rfl, rfl⟩ := bq_p2 hf
      exact bq_prop C hex ht_ (by decide) (by decide)
  · have hf := bq_in ht_ hf
    obtain ⟨rfl, rfl⟩ := bq_p2 hf
    exact bq_prop C hex ht_ (by decide) (by decide)
set_option maxHeartbeats 4000000 in
theorem wk_bl_nearest_L9 {p : Program} {e : Env} {R : Room} {s : State} {m : MethodId} {args : Array Value} {below : List Frame} {meth : Method} {c : Code} {A : Nat → Prop} {kc ks : Nat} {Q : State → Prop} {l : Launch} {D : va_G} {am : bqAm} {X vE sE : Nat → Nat} {d : Nat → ClassId} {ba ca ia ka na ta : Nat → Nat} {dy fa : Option Nat} {L : Nat} {mc : Int32} {F : Nat} {E : bqE} (C : bq_C p R s m args meth c A D bqCl (bqTy d) am cX1_nearest 4 RX1 8 131) (hkc : kc ≤ R.cells) (hks : ks ≤ R.slots) (hamb : bq_Amb am X vE sE) (hst : l.stackTraces = false) (hL : E.1 ≤ L ∧ L < 2147483648) {β : bqS} {σ : bqS} {κ : bqS} :
    ∀ (k : Nat) (x1 : Int32) (x2 : Int32) (x3 : Int32) (y2 : Int32) (H : Heap) (locs : List Loc), bl_nearest_L9 F E β σ κ k x1 x2 x3 = some y2 → va_P D bqCl (List.flatten ([bbB d ba ca na ta ka ia β, stB d na σ, coB d ca dy fa κ, lsB d ca L mc E.1] : List va_W)) H → va_D A (List.flatten ([bbB d ba ca na ta ka ia β, stB d na σ, coB d ca dy fa κ, lsB d ca L mc E.1] : List va_W)) → va_S A s.heap H locs → ∀ ls : Array Slot, lv_has ls 4 [(0, .ref (ba 0)), (1, .int x1), (2, .int x2), (3, .int x3)] →
      (∀ (H : Heap) (locs : List Loc), va_P D bqCl (List.flatten ([bbB d ba ca na ta ka ia β, stB d na σ, coB d ca dy fa κ, lsB d ca L mc E.1] : List va_W)) H → va_D A (List.flatten ([bbB d ba ca na ta ka ia β, stB d na σ, coB d ca dy fa κ, lsB d ca L mc E.1] : List va_W)) → va_S A s.heap H locs → ∀ ls : Array Slot, lv_has ls 4 [(2, .int y2)] → W p l e R s m args below meth c H locs kc ks Q (F0 m 67 ls [])) →
      W p l e R s m args below meth c H locs kc ks Q (F0 m 9 ls []) := by
  have C0 := C
  obtain ⟨hx, hb, hown, hts, hml, hlocks, hA, hK, hm, hRf, hRl, hok⟩ := C
  have C := C0
  intro k
  induction k with
  | zero => intro x1 x2 x3 y2 H locs hf
            cases hf
  | succ k ih =>
    intro x1 x2 x3 y2 H locs hf hP hD hS ls hl hk0
    rw [bl_nearest_L9] at hf
    refine lv_iload_n hx hb dX1_nearest_9 rfl (lv_at hl 3 rfl) ?_
    refine lv_aload_n hx hb dX1_nearest_10 rfl (lv_at hl 0 rfl) ?_
    obtain ⟨v2, hg, hf⟩ := bq_b1s hf
    refine bq_cV (bs := [bbB d ba ca na ta ka ia β, stB d na σ, coB d ca dy fa κ, lsB d ca L mc E.1]) (bc := [bbB d ba ca na ta ka ia β, coB d ca dy fa κ, lsB d ca L mc E.1]) (br := [stB d na σ]) (bc' := [bbB d ba ca na ta ka ia β, coB d ca dy fa κ, lsB d ca L mc E.1]) (bs' := [bbB d ba ca na ta ka ia β, stB d na σ, coB d ca dy fa κ, lsB d ca L mc E.1]) (As := []) (rest := [.int x3]) (o := (some (.int v2))) C hkc hks (met_bl_girls hok hamb hL hg) (bq_pm [0, 2, 3, 1] rfl rfl rfl) (bq_pm [0, 3, 1, 2] rfl rfl rfl) (lw_V q979 q981 qs12 q113 q982) (hd_X1_girls) (Nat.le_of_ble_eq_true rfl) (Nat.le_of_ble_eq_true rfl) (va_recv hK hP (ci := 1) (q0 := 0) rfl rfl) rfl hl.1 rfl (Nat.le_of_ble_eq_true rfl) dX1_nearest_11 hP hD hS (fun H locs hP hD hS => ?_)
    refine lv_icmp_ge (tgt := 67) hx hb dX1_nearest_14 (by decide) (fun c3 => ?_) (fun c3 => ?_)
    · have hf := bq_ip c3 hf
      obtain rfl := Option.some.inj hf
      exact hk0 _ _ hP hD hS ls (lv_sub hl [2] rfl)
    · have hf := bq_in c3 hf
      refine lv_iload_n hx hb dX1_nearest_17 rfl (lv_at hl 2 rfl) ?_
      refine lv_iconst (v := (-1 : Int32)) hx hb dX1_nearest_18 (by decide) ?_
      refine lv_icmp_eq (tgt := 59) hx hb dX1_nearest_19 (by decide) (fun c4 => ?_) (fun c4 => ?_)
      · have hf := bq_ip c4 hf
        refine lv_iload_n hx hb dX1_nearest_59 rfl (lv_at hl 3 rfl) ?_
        refine lv_istore_n (lv' := [(2, .int x3), (0, .ref (ba 0)), (1, .int x1), (3, .int x3)]) hx hb dX1_nearest_60 rfl hl (by decide) rfl (fun ls hl => ?_)
        obtain ⟨v5, ev5, hf⟩ := bq_lts hf
        refine lv_iinc (v := v5) (lv' := [(3, .int v5), (2, .int x3), (0, .ref (ba 0)), (1, .int x1)]) hx hb dX1_nearest_61 hl (k := 3) rfl (bq_inc (by decide) ev5) (by decide) rfl (fun ls hl => ?_)
        refine lv_goto (tgt := 9) hx hb dX1_nearest_64 (by decide) ?_
        exact ih _ _ _ _ _ _ hf hP hD hS ls (lv_sub hl [2, 3, 1, 0] rfl) hk0
      · have hf := bq_in c4 hf
        refine lv_aload_n hx hb dX1_nearest_22 rfl (lv_at hl 0 rfl) ?_
        refine gX1_get (own := RX1) (fs := (bbF ba ca na ta ka ia β)) (v := .ref (ca 0)) hx hb hts hown hK hP (q0 := 0) rfl 0 (Nat.le_of_ble_eq_true rfl) (hts _ q755) rfl dX1_nearest_23 ?_
        refine lv_aload_n hx hb dX1_nearest_26 rfl (lv_at hl 0 rfl) ?_
        refine gX1_get (own := RX1) (fs := (bbF ba ca na ta ka ia β)) (v := .ref (na 0)) hx hb hts hown hK hP (q0 := 0) rfl 3 (Nat.le_of_ble_eq_true rfl) (hts _ q758) rfl dX1_nearest_27 ?_
        refine gX6_getN (own := RX1) (host := "BlueBag") (fs := (stF na σ)) (v := .ref (na 2)) hx hb hts hown hK hP (q0 := 6) rfl 1 (Nat.le_of_ble_eq_true rfl) (bq_nF hamb hm 16 rfl) rfl dX1_nearest_30 ?_
        refine lv_iload_n hx hb dX1_nearest_33 rfl (lv_at hl 3 rfl) ?_
        obtain ⟨h6, hf⟩ := bq_cks hf
        refine bq_ild (j := x3.toNatClampNeg) (f := σ 2) (q := 0) hx hb hK hP 8 rfl rfl h6 rfl dX1_nearest_34 ?_
        refine lv_iload_n hx hb dX1_nearest_35 rfl (lv_at hl 1 rfl) ?_
        obtain ⟨v7, hg, hf⟩ := bq_b1s hf
        refine bq_cV (bs := [bbB d ba ca na ta ka ia β, stB d na σ, coB d ca dy fa κ, lsB d ca L mc E.1]) (bc := [coB d ca dy fa κ]) (br := [bbB d ba ca na ta ka ia β, stB d na σ, lsB d ca L mc E.1]) (bc' := [coB d ca dy fa κ]) (bs' := [bbB d ba ca na ta ka ia β, stB d na σ, coB d ca dy fa κ, lsB d ca L mc E.1]) (As := [.int (σ 2 x3.toNatClampNeg), .int x1]) (rest := []) (o := (some (.int v7))) C hkc hks (met_co_steps hok hamb hg) (bq_pm [2, 0, 1, 3] rfl rfl rfl) (bq_pm [1, 2, 0, 3] rfl rfl rfl) (lw_V q1431 q869 q870 q114 q871) (hd_X2_steps) (Nat.le_of_ble_eq_true rfl) (Nat.le_of_ble_eq_true rfl) (va_recv hK hP (ci := 2) (q0 := 11) rfl rfl) rfl hl.1 rfl (Nat.le_of_ble_eq_true rfl) dX1_nearest_36 hP hD hS (fun H locs hP hD hS => ?_)
        refine lv_aload_n hx hb dX1_nearest_39 rfl (lv_at hl 0 rfl) ?_
        refine gX1_get (own := RX1) (fs := (bbF ba ca na ta ka ia β)) (v := .ref (ca 0)) hx hb hts hown hK hP (q0 := 0) rfl 0 (Nat.le_of_ble_eq_true rfl) (hts _ q755) rfl dX1_nearest_40 ?_
        refine lv_aload_n hx hb dX1_nearest_43 rfl (lv_at hl 0 rfl) ?_
        refine gX1_get (own := RX1) (fs := (bbF ba ca na ta ka ia β)) (v := .ref (na 0)) hx hb hts hown hK hP (q0 := 0) rfl 3 (Nat.le_of_ble_eq_true rfl) (hts _ q758) rfl dX1_nearest_44 ?_
        refine gX6_getN (own := RX1) (host := "BlueBag") (fs := (stF na σ)) (v := .ref (na 2)) hx hb hts hown hK hP (q0 := 6) rfl 1 (Nat.le_of_ble_eq_true rfl) (bq_nF hamb hm 16 rfl) rfl dX1_nearest_47 ?_
        refine lv_iload_n hx hb dX1_nearest_50 rfl (lv_at hl 2 rfl) ?_
        obtain ⟨h8, hf⟩ := bq_cks hf
        refine bq_ild (j := x2.toNatClampNeg) (f := σ 2) (q := 0) hx hb hK hP 8 rfl rfl h8 rfl dX1_nearest_51 ?_
        refine lv_iload_n hx hb dX1_nearest_52 rfl (lv_at hl 1 rfl) ?_
        obtain ⟨v9, hg, hf⟩ := bq_b1s hf
        refine bq_cV (bs := [bbB d ba ca na ta ka ia β, stB d na σ, coB d ca dy fa κ, lsB d ca L mc E.1]) (bc := [coB d ca dy fa κ]) (br := [bbB d ba ca na ta ka ia β, stB d na σ, lsB d ca L mc E.1]) (bc' := [coB d ca dy fa κ]) (bs' := [bbB d ba ca na ta ka ia β, stB d na σ, coB d ca dy fa κ, lsB d ca L mc E.1]) (As := [.int (σ 2 x2.toNatClampNeg), .int x1]) (rest := [.int v7]) (o := (some (.int v9))) C hkc hks (met_co_steps hok hamb hg) (bq_pm [2, 0, 1, 3] rfl rfl rfl) (bq_pm [1, 2, 0, 3] rfl rfl rfl) (lw_V q1431 q869 q870 q114 q871) (hd_X2_steps) (Nat.le_of_ble_eq_true rfl) (Nat.le_of_ble_eq_true rfl) (va_recv hK hP (ci := 2) (q0 := 11) rfl rfl) rfl hl.1 rfl (Nat.le_of_ble_eq_true rfl) dX1_nearest_53 hP hD hS (fun H locs hP hD hS => ?_)
        refine lv_icmp_ge (tgt := 61) hx hb dX1_nearest_56 (by decide) (fun c10 => ?_) (fun c10 => ?_)
        · have hf := bq_ip c10 hf
          obtain ⟨v11, ev11, hf⟩ := bq_lts hf
          refine lv_iinc (v := v11) (lv' := [(3, .int v11), (0, .ref (ba 0)), (1, .int x1), (2, .int x2)]) hx hb dX1_nearest_61 hl (k := 3) rfl (bq_inc (by decide) ev11) (by decide) rfl (fun ls hl => ?_)
          refine lv_goto (tgt := 9) hx hb dX1_nearest_64 (by decide) ?_
          exact ih _ _ _ _ _ _ hf hP hD hS ls (lv_sub hl [1, 2, 3, 0] rfl) hk0
        · have hf := bq_in c10 hf
          refine lv_iload_n hx hb dX1_nearest_59 rfl (lv_at hl 3 rfl) ?_
          refine lv_istore_n (lv' := [(2, .int x3), (0, .ref (ba 0)), (1, .int x1), (3, .int x3)]) hx hb dX1_nearest_60 rfl hl (by decide) rfl (fun ls hl => ?_)
          obtain ⟨v12, ev12, hf⟩ := bq_lts hf
          refine lv_iinc (v := v12) (lv' := [(3, .int v12), (2, .int x3), (0, .ref (ba 0)), (1, .int x1)]) hx hb dX1_nearest_61 hl (k := 3) rfl (bq_inc (by decide) ev12) (by decide) rfl (fun ls hl => ?_)
          refine lv_goto (tgt := 9) hx hb dX1_nearest_64 (by decide) ?_
          exact ih _ _ _ _ _ _ hf hP hD hS ls (lv_sub hl [2, 3, 1, 0] rfl) hk0
set_option maxHeartbeats 4000000 in
theorem met_bl_nearest {l : Launch} {D : va_G} {am : bqAm} {X vE sE : Nat → Nat} {d : Nat → ClassId} {ba ca ia ka na ta : Nat → Nat} {dy fa : Option Nat} {L : Nat} {mc : Int32} {F : Nat} {E : bqE} {β : bqS} {σ : bqS} {κ : bqS} {r : Int32} {tg : Nat} {x1 : Int32} (hok : bq_Ok am) (hamb : bq_Amb am X vE sE) (hst : l.stackTraces = false) (hL : E.1 ≤ L ∧ L < 2147483648) (hf : bl_nearest F E β σ κ x1 = some (tg, r)) : bq_X l yX1_nearest cX1_nearest 4 (some .int) 8 131 1 6 D bqCl (bqTy d) am [.ref (ba 0), .int x1] (List.flatten ([bbB d ba ca na ta ka ia β, stB d na σ, coB d ca dy fa κ, lsB d ca L mc E.1] : List va_W)) tg (some (.int r)) (List.flatten ([bbB d ba ca na ta ka ia β, stB d na σ, coB d ca dy fa κ, lsB d ca L mc E.1] : List va_W)) := by
  unfold bl_nearest at hf
  refine bq_ofX hok (by decide +kernel) (Nat.le_of_ble_eq_true rfl) ?_
  intro p e s m below meth c A ls C hr hex hP hD hS hl
  have C0 := C
  obtain ⟨hx, hb, hown, hts, hml, hlocks, hA, hK, hm, hRf, hRl, hok⟩ := C
  have C := C0
  have hkc := Nat.zero_le 1
  have hks := Nat.zero_le 6
  have hl : lv_has ls 4 [(0, .ref (ba 0)), (1, .int x1)] := hl
  refine lv_aload_n hx hb dX1_nearest_0 rfl (lv_at hl 0 rfl) ?_
  refine lv_iload_n hx hb dX1_nearest_1 rfl (lv_at hl 1 rfl) ?_
  obtain ⟨t1, hg, hf⟩ := bq_b1s hf
  refine bq_cVX (bs := [bbB d ba ca na ta ka ia β, stB d na σ, coB d ca dy fa κ, lsB d ca L mc E.1]) (bc := [bbB d ba ca na ta ka ia β, coB d ca dy fa κ]) (br := [stB d na σ, lsB d ca L mc E.1]) (bc' := [bbB d ba ca na ta ka ia β, coB d ca dy fa κ]) (bs' := [bbB d ba ca na ta ka ia β, stB d na σ, coB d ca dy fa κ, lsB d ca L mc E.1]) (As := [.int x1]) (rest := []) (o := none) C (Nat.le_of_ble_eq_true rfl) (Nat.le_of_ble_eq_true rfl) (met_bl_cellAt hok hamb hst hg) (bq_pm [0, 2, 1, 3] rfl rfl rfl) (bq_pm [0, 2, 1, 3] rfl rfl rfl) (lw_V q1423 q1425 qs35 q113 q1426) (hd_X1_cellAt) (Nat.le_of_ble_eq_true rfl) (Nat.le_of_ble_eq_true rfl) (va_recv hK hP (ci := 1) (q0 := 0) rfl rfl) rfl hl.1 rfl (Nat.le_of_ble_eq_true rfl) dX1_nearest_2 hP hD hS (fun ht_ H locs hP hD hS => ?_) (fun ht_ => ?_)
  · have hf := bq_ip ht_ hf
    have hkc : 1 ≤ 1 := by decide
    have hks : 6 ≤ 6 := by decide
    refine lv_iconst (v := (-1 : Int32)) hx hb dX1_nearest_5 (by decide) ?_
    refine lv_istore_n (lv' := [(2, .int (-1 : Int32)), (0, .ref (ba 0)), (1, .int x1)]) hx hb dX1_nearest_6 rfl hl (by decide) rfl (fun ls hl => ?_)
    refine lv_iconst (v := (0 : Int32)) hx hb dX1_nearest_7 (by decide) ?_
    refine lv_istore_n (lv' := [(3, .int (0 : Int32)), (2, .int (-1 : Int32)), (0, .ref (ba 0)), (1, .int x1)]) hx hb dX1_nearest_8 rfl hl (by decide) rfl (fun ls hl => ?_)
    obtain ⟨v13, hg, hf⟩ := bq_b1s hf
    refine wk_bl_nearest_L9 C hkc hks hamb hst hL _ _ _ _ _ _ _ hg hP hD hS ls (lv_sub hl [2, 3, 1, 0] rfl) ?_
    · intro H locs hP hD hS ls hl
      refine lv_iload_n hx hb dX1_nearest_67 rfl (lv_at hl 0 rfl) ?_
      obtain ⟨rfl, rfl⟩ := bq_p2 hf
      exact bq_iretX C hr (by decide) (by decide) hP hD hS dX1_nearest_68
  · have hf := bq_in ht_ hf
    obtain ⟨rfl, rfl⟩ := bq_p2 hf
    exact bq_prop C hex ht_ (by decide) (by decide)
set_option maxHeartbeats 4000000 in
theorem wk_bl_allBy_J41 {p : Program} {e : Env} {R : Room} {s : State} {m : MethodId} {args : Array Value} {below : List Frame} {meth : Method} {c : Code} {A : Nat → Prop} {l : Launch} {D : va_G} {am : bqAm} {X vE sE : Nat → Nat} {d : Nat → ClassId} {ba ca ia ka na ta : Nat → Nat} {dy fa : Option Nat} {L : Nat} {mc : Int32} {P : va_W} {F : Nat} {E : bqE} (C : bq_C p R s m args meth c A D bqCl (bqTy d) am cX1_allBy 3 RX1 805 24152) (hkc : 0 ≤ R.cells) (hks : 0 ≤ R.slots) (hamb : bq_Amb am X vE sE) (hE : bq_E P vE dy fa E) (hby : bq_By l D am d ca vE P 400) (hL : E.1 ≤ L ∧ L < 2147483648) (hr : meth.sig.returnType = (some .int)) (β : bqS) (σ : bqS) (τ : bqS) (ν : bqS) (κ : bqS) (r : Int32) (τ' : bqS) (ν' : bqS) (H : Heap) (locs : List Loc) :
      bl_allBy_J41 F E β σ τ ν κ = some (r, τ', ν') → va_P D bqCl (List.flatten ([bbB d ba ca na ta ka ia β, stB d na σ, stB d ta τ, viB d ca ν, coB d ca dy fa κ, lsB d ca L mc E.1, giB ca E.1 κ, P] : List va_W)) H → va_D A (List.flatten ([bbB d ba ca na ta ka ia β, stB d na σ, stB d ta τ, viB d ca ν, coB d ca dy fa κ, lsB d ca L mc E.1, giB ca E.1 κ, P] : List va_W)) → va_S A s.heap H locs → ∀ ls : Array Slot, lv_has ls 3 [(0, .ref (ba 0))] →
      W p l e R s m args below meth c H locs 0 0 (MQ below (bq_Q D bqCl (some (.int r)) (List.flatten ([bbB d ba ca na ta ka ia β, stB d na σ, stB d ta τ', viB d ca ν', coB d ca dy fa κ, lsB d ca L mc E.1, giB ca E.1 κ, P] : List va_W)) A) args s 0 0 A) (F0 m 41 ls []) := by
  have C0 := C
  obtain ⟨hx, hb, hown, hts, hml, hlocks, hA, hK, hm, hRf, hRl, hok⟩ := C
  have C := C0
  intro hf hP hD hS ls hl 
  unfold bl_allBy_J41 at hf
  refine lv_aload_n hx hb dX1_allBy_41 rfl (lv_at hl 0 rfl) ?_
  refine gX1_get (own := RX1) (fs := (bbF ba ca na ta ka ia β)) (v := .ref (ta 0)) hx hb hts hown hK hP (q0 := 0) rfl 4 (Nat.le_of_ble_eq_true rfl) (hts _ q759) rfl dX1_allBy_42 ?_
  refine lv_aload_n hx hb dX1_allBy_45 rfl (lv_at hl 0 rfl) ?_
  refine gX1_get (own := RX1) (fs := (bbF ba ca na ta ka ia β)) (v := .ref (ca 0)) hx hb hts hown hK hP (q0 := 0) rfl 0 (Nat.le_of_ble_eq_true rfl) (hts _ q755) rfl dX1_allBy_46 ?_
  obtain ⟨τ5, ν6, hg, hf⟩ := bq_b2s hf
  refine bq_cV (bs := [bbB d ba ca na ta ka ia β, stB d na σ, stB d ta τ, viB d ca ν, coB d ca dy fa κ, lsB d ca L mc E.1, giB ca E.1 κ, P]) (bc := [stB d ta τ, viB d ca ν, coB d ca dy fa κ, lsB d ca L mc E.1, giB ca E.1 κ, P]) (br := [bbB d ba ca na ta ka ia β, stB d na σ]) (bc' := [stB d ta τ5, viB d ca ν6, coB d ca dy fa κ, lsB d ca L mc E.1, giB ca E.1 κ, P]) (bs' := [bbB d ba ca na ta ka ia β, stB d na σ, stB d ta τ5, viB d ca ν6, coB d ca dy fa κ, lsB d ca L mc E.1, giB ca E.1 κ, P]) (As := [.ref (ca 0)]) (rest := []) (o := none) C hkc hks (met_st_goes hok hamb hE hby hL hg) (bq_pm [2, 3, 4, 5, 6, 7, 0, 1] rfl rfl rfl) (bq_pm [6, 7, 0, 1, 2, 3, 4, 5] rfl rfl rfl) (lw_V q844 q845 q846 q138 q847) (hd_X6_goes) (Nat.le_of_ble_eq_true rfl) (Nat.le_of_ble_eq_true rfl) (va_recv hK hP (ci := 5) (q0 := 11) rfl rfl) rfl hl.1 rfl (Nat.le_of_ble_eq_true rfl) dX1_allBy_49 hP hD hS (fun H locs hP hD hS => ?_)
  refine lv_aload_n hx hb dX1_allBy_52 rfl (lv_at hl 0 rfl) ?_
  refine gX1_get (own := RX1) (fs := (bbF ba ca na ta ka ia β)) (v := .ref (ta 0)) hx hb hts hown hK hP (q0 := 0) rfl 4 (Nat.le_of_ble_eq_true rfl) (hts _ q759) rfl dX1_allBy_53 ?_
  refine lv_aload_n hx hb dX1_allBy_56 rfl (lv_at hl 0 rfl) ?_
  obtain ⟨v7, hg, hf⟩ := bq_b1s hf
  refine bq_cV (bs := [bbB d ba ca na ta ka ia β, stB d na σ, stB d ta τ5, viB d ca ν6, coB d ca dy fa κ, lsB d ca L mc E.1, giB ca E.1 κ, P]) (bc := [bbB d ba ca na ta ka ia β, coB d ca dy fa κ]) (br := [stB d na σ, stB d ta τ5, viB d ca ν6, lsB d ca L mc E.1, giB ca E.1 κ, P]) (bc' := [bbB d ba ca na ta ka ia β, coB d ca dy fa κ]) (bs' := [bbB d ba ca na ta ka ia β, stB d na σ, stB d ta τ5, viB d ca ν6, coB d ca dy fa κ, lsB d ca L mc E.1, giB ca E.1 κ, P]) (As := []) (rest := [.ref (ta 0)]) (o := (some (.int v7))) C hkc hks (met_bl_cells hok hamb hg) (bq_pm [0, 4, 1, 2, 3, 5, 6, 7] rfl rfl rfl) (bq_pm [0, 2, 3, 4, 1, 5, 6, 7] rfl rfl rfl) (lw_V q990 q992 qs13 q113 q993) (hd_X1_cells) (Nat.le_of_ble_eq_true rfl) (Nat.le_of_ble_eq_true rfl) (va_recv hK hP (ci := 1) (q0 := 0) rfl rfl) rfl hl.1 rfl (Nat.le_of_ble_eq_true rfl) dX1_allBy_57 hP hD hS (fun H locs hP hD hS => ?_)
  obtain ⟨v8, hg, hf⟩ := bq_b1s hf
  refine bq_cV (bs := [bbB d ba ca na ta ka ia β, stB d na σ, stB d ta τ5, viB d ca ν6, coB d ca dy fa κ, lsB d ca L mc E.1, giB ca E.1 κ, P]) (bc := [stB d ta τ5]) (br := [bbB d ba ca na ta ka ia β, stB d na σ, viB d ca ν6, coB d ca dy fa κ, lsB d ca L mc E.1, giB ca E.1 κ, P]) (bc' := [stB d ta τ5]) (bs' := [bbB d ba ca na ta ka ia β, stB d na σ, stB d ta τ5, viB d ca ν6, coB d ca dy fa κ, lsB d ca L mc E.1, giB ca E.1 κ, P]) (As := [.int v7]) (rest := []) (o := (some (.int v8))) C hkc hks (met_st_all hok hamb hg) (bq_pm [2, 0, 1, 3, 4, 5, 6, 7] rfl rfl rfl) (bq_pm [1, 2, 0, 3, 4, 5, 6, 7] rfl rfl rfl) (lw_V q1412 q1413 q1414 q138 q1415) (hd_X6_all) (Nat.le_of_ble_eq_true rfl) (Nat.le_of_ble_eq_true rfl) (va_recv hK hP (ci := 5) (q0 := 11) rfl rfl) rfl hl.1 rfl (Nat.le_of_ble_eq_true rfl) dX1_allBy_60 hP hD hS (fun H locs hP hD hS => ?_)
  obtain ⟨rfl, rfl, rfl⟩ := bq_p3 hf
  exact bq_iret C hr hP hD hS dX1_allBy_63
set_option maxHeartbeats 4000000 in
theorem met_bl_allBy {l : Launch} {D : va_G} {am : bqAm} {X vE sE : Nat → Nat} {d : Nat → ClassId} {ba ca ia ka na ta : Nat → Nat} {dy fa : Option Nat} {L : Nat} {mc : Int32} {P : va_W} {F : Nat} {E : bqE} {β : bqS} {σ : bqS} {τ : bqS} {ν : bqS} {κ : bqS} {τ' : bqS} {ν' : bqS} {r : Int32} {x1 : Int32} {x2 : Int32} (hok : bq_Ok am) (hamb : bq_Amb am X vE sE) (hE : bq_E P vE dy fa E) (hby : bq_By l D am d ca vE P 400) (hL : E.1 ≤ L ∧ L < 2147483648) (hf : bl_allBy F E β σ τ ν κ x1 x2 = some (r, τ', ν')) : bq_M l yX1_allBy cX1_allBy 3 (some .int) 805 24152 D bqCl (bqTy d) am [.ref (ba 0), .int x1, .int x2] (List.flatten ([bbB d ba ca na ta ka ia β, stB d na σ, stB d ta τ, viB d ca ν, coB d ca dy fa κ, lsB d ca L mc E.1, giB ca E.1 κ, P] : List va_W)) (some (.int r)) (List.flatten ([bbB d ba ca na ta ka ia β, stB d na σ, stB d ta τ', viB d ca ν', coB d ca dy fa κ, lsB d ca L mc E.1, giB ca E.1 κ, P] : List va_W)) := by
  unfold bl_allBy at hf
  refine bq_of hok (by decide +kernel) (Nat.le_of_ble_eq_true rfl) ?_
  intro p e s m below meth c A ls C hr hP hD hS hl
  have C0 := C
  obtain ⟨hx, hb, hown, hts, hml, hlocks, hA, hK, hm, hRf, hRl, hok⟩ := C
  have C := C0
  have hkc := Nat.zero_le 0
  have hks := Nat.zero_le 0
  have hl : lv_has ls 3 [(0, .ref (ba 0)), (1, .int x1), (2, .int x2)] := hl
  refine lv_aload_n hx hb dX1_allBy_0 rfl (lv_at hl 0 rfl) ?_
  refine lv_iconst (v := (0 : Int32)) hx hb dX1_allBy_1 (by decide) ?_
  obtain ⟨τ1, ν2, hg, hf⟩ := bq_b2s hf
  refine bq_cV (bs := [bbB d ba ca na ta ka ia β, stB d na σ, stB d ta τ, viB d ca ν, coB d ca dy fa κ, lsB d ca L mc E.1, giB ca E.1 κ, P]) (bc := [bbB d ba ca na ta ka ia β, stB d na σ, stB d ta τ, viB d ca ν, coB d ca dy fa κ, lsB d ca L mc E.1, giB ca E.1 κ, P]) (br := []) (bc' := [bbB d ba ca na ta ka ia β, stB d na σ, stB d ta τ1, viB d ca ν2, coB d ca dy fa κ, lsB d ca L mc E.1, giB ca E.1 κ, P]) (bs' := [bbB d ba ca na ta ka ia β, stB d na σ, stB d ta τ1, viB d ca ν2, coB d ca dy fa κ, lsB d ca L mc E.1, giB ca E.1 κ, P]) (As := [.int (0 : Int32)]) (rest := []) (o := none) C hkc hks (met_bl_tries hok hamb hE hby hL hg) (bq_pm [0, 1, 2, 3, 4, 5, 6, 7] rfl rfl rfl) (bq_pm [0, 1, 2, 3, 4, 5, 6, 7] rfl rfl rfl) (lw_V q959 q961 qs10 q113 q962) (hd_X1_tries) (Nat.le_of_ble_eq_true rfl) (Nat.le_of_ble_eq_true rfl) (va_recv hK hP (ci := 1) (q0 := 0) rfl rfl) rfl hl.1 rfl (Nat.le_of_ble_eq_true rfl) dX1_allBy_2 hP hD hS (fun H locs hP hD hS => ?_)
  refine lv_aload_n hx hb dX1_allBy_5 rfl (lv_at hl 0 rfl) ?_
  refine gX1_get (own := RX1) (fs := (bbF ba ca na ta ka ia β)) (v := .ref (ta 0)) hx hb hts hown hK hP (q0 := 0) rfl 4 (Nat.le_of_ble_eq_true rfl) (hts _ q759) rfl dX1_allBy_6 ?_
  refine lv_dup hx hb dX1_allBy_9 rfl ?_
  refine gX6_getN (own := RX1) (host := "BlueBag") (fs := (stF ta τ1)) (v := .int (τ1 0 6)) hx hb hts hown hK hP (q0 := 11) rfl 6 (Nat.le_of_ble_eq_true rfl) (bq_nF hamb hm 14 rfl) rfl dX1_allBy_10 ?_
  refine lv_iconst (v := (1 : Int32)) hx hb dX1_allBy_13 (by decide) ?_
  refine lv_iload_n hx hb dX1_allBy_14 rfl (lv_at hl 1 rfl) ?_
  refine lv_ishl hx hb dX1_allBy_15 ?_
  refine lv_iconst (v := (-1 : Int32)) hx hb dX1_allBy_16 (by decide) ?_
  refine lv_ixor hx hb dX1_allBy_17 ?_
  refine lv_iand hx hb dX1_allBy_18 ?_
  obtain ⟨τ3, eτ3, hf⟩ := bq_lts hf
  refine gX6_putN (own := RX1) (host := "BlueBag") (fs := (stF ta τ1)) (ty := .int) (ws' := (List.flatten ([bbB d ba ca na ta ka ia β, stB d na σ, stB d ta (bq_up τ1 0 6 ((τ1 0 6) &&& (((1 : Int32) <<< (x1 &&& 31)) ^^^ (-1 : Int32)))), viB d ca ν2, coB d ca dy fa κ, lsB d ca L mc E.1, giB ca E.1 κ, P] : List va_W))) hx hb hts hown hK hP hD hS (q0 := 11) rfl 6 (Nat.le_of_ble_eq_true rfl) (bq_nF hamb hm 14 rfl) rfl rfl rfl rfl (Nat.le_of_ble_eq_true rfl) rfl dX1_allBy_19 (fun H locs hP hD hS => ?_)
  rw [← eτ3] at hP hD
  refine lv_iload_n hx hb dX1_allBy_22 rfl (lv_at hl 2 rfl) ?_
  refine lv_if_eq (tgt := 41) hx hb dX1_allBy_23 (by decide) (fun c4 => ?_) (fun c4 => ?_)
  · have hf := bq_ip c4 hf
    exact wk_bl_allBy_J41 C hkc hks hamb hE hby hL hr _ _ _ _ _ _ _ _ _ _ hf hP hD hS ls (lv_sub hl [0] rfl)
  · have hf := bq_in c4 hf
    refine lv_aload_n hx hb dX1_allBy_26 rfl (lv_at hl 0 rfl) ?_
    refine gX1_get (own := RX1) (fs := (bbF ba ca na ta ka ia β)) (v := .ref (ta 0)) hx hb hts hown hK hP (q0 := 0) rfl 4 (Nat.le_of_ble_eq_true rfl) (hts _ q759) rfl dX1_allBy_27 ?_
    refine lv_dup hx hb dX1_allBy_30 rfl ?_
    refine gX6_getN (own := RX1) (host := "BlueBag") (fs := (stF ta τ3)) (v := .int (τ3 0 6)) hx hb hts hown hK hP (q0 := 11) rfl 6 (Nat.le_of_ble_eq_true rfl) (bq_nF hamb hm 14 rfl) rfl dX1_allBy_31 ?_
    refine lv_iconst (v := (1 : Int32)) hx hb dX1_allBy_34 (by decide) ?_
    refine lv_iload_n hx hb dX1_allBy_35 rfl (lv_at hl 1 rfl) ?_
    refine lv_ishl hx hb dX1_allBy_36 ?_
    refine lv_ior hx hb dX1_allBy_37 ?_
    obtain ⟨τ9, eτ9, hf⟩ := bq_lts hf
    refine gX6_putN (own := RX1) (host := "BlueBag") (fs := (stF ta τ3)) (ty := .int) (ws' := (List.flatten ([bbB d ba ca na ta ka ia β, stB d na σ, stB d ta (bq_up τ3 0 6 ((τ3 0 6) ||| ((1 : Int32) <<< (x1 &&& 31)))), viB d ca ν2, coB d ca dy fa κ, lsB d ca L mc E.1, giB ca E.1 κ, P] : List va_W))) hx hb hts hown hK hP hD hS (q0 := 11) rfl 6 (Nat.le_of_ble_eq_true rfl) (bq_nF hamb hm 14 rfl) rfl rfl rfl rfl (Nat.le_of_ble_eq_true rfl) rfl dX1_allBy_38 (fun H locs hP hD hS => ?_)
    rw [← eτ9] at hP hD
    exact wk_bl_allBy_J41 C hkc hks hamb hE hby hL hr _ _ _ _ _ _ _ _ _ _ hf hP hD hS ls (lv_sub hl [0] rfl)
set_option maxHeartbeats 4000000 in
theorem met_bl_missed {l : Launch} {D : va_G} {am : bqAm} {X vE sE : Nat → Nat} {d : Nat → ClassId} {ba ca ia ka na ta : Nat → Nat} {dy fa : Option Nat} {L : Nat} {mc : Int32} {P : va_W} {F : Nat} {E : bqE} {β : bqS} {σ : bqS} {τ : bqS} {ν : bqS} {κ : bqS} {τ' : bqS} {ν' : bqS} {r : Int32} {tg : Nat} {x1 : Int32} (hok : bq_Ok am) (hamb : bq_Amb am X vE sE) (hst : l.stackTraces = false) (hE : bq_E P vE dy fa E) (hby : bq_By l D am d ca vE P 400) (hL : E.1 ≤ L ∧ L < 2147483648) (hf : bl_missed F E β σ τ ν κ x1 = some (tg, r, τ', ν')) : bq_X l yX1_missed cX1_missed 2 (some .int) 806 24174 1 6 D bqCl (bqTy d) am [.ref (ba 0), .int x1] (List.flatten ([bbB d ba ca na ta ka ia β, stB d na σ, stB d ta τ, viB d ca ν, coB d ca dy fa κ, lsB d ca L mc E.1, giB ca E.1 κ, P] : List va_W)) tg (some (.int r)) (List.flatten ([bbB d ba ca na ta ka ia β, stB d na σ, stB d ta τ', viB d ca ν', coB d ca dy fa κ, lsB d ca L mc E.1, giB ca E.1 κ, P] : List va_W)) := by
  unfold bl_missed at hf
  refine bq_ofX hok (by decide +kernel) (Nat.le_of_ble_eq_true rfl) ?_
  intro p e s m below meth c A ls C hr hex hP hD hS hl
  have C0 := C
  obtain ⟨hx, hb, hown, hts, hml, hlocks, hA, hK, hm, hRf, hRl, hok⟩ := C
  have C := C0
  have hkc := Nat.zero_le 1
  have hks := Nat.zero_le 6
  have hl : lv_has ls 2 [(0, .ref (ba 0)), (1, .int x1)] := hl
  refine lv_aload_n hx hb dX1_missed_0 rfl (lv_at hl 0 rfl) ?_
  refine lv_iload_n hx hb dX1_missed_1 rfl (lv_at hl 1 rfl) ?_
  obtain ⟨t1, hg, hf⟩ := bq_b1s hf
  refine bq_cVX (bs := [bbB d ba ca na ta ka ia β, stB d na σ, stB d ta τ, viB d ca ν, coB d ca dy fa κ, lsB d ca L mc E.1, giB ca E.1 κ, P]) (bc := [bbB d ba ca na ta ka ia β, coB d ca dy fa κ, lsB d ca L mc E.1, giB ca E.1 κ]) (br := [stB d na σ, stB d ta τ, viB d ca ν, P]) (bc' := [bbB d ba ca na ta ka ia β, coB d ca dy fa κ, lsB d ca L mc E.1, giB ca E.1 κ]) (bs' := [bbB d ba ca na ta ka ia β, stB d na σ, stB d ta τ, viB d ca ν, coB d ca dy fa κ, lsB d ca L mc E.1, giB ca E.1 κ, P]) (As := [.int x1]) (rest := []) (o := (some (.ref (ca (10 + x1.toNatClampNeg))))) C (Nat.le_of_ble_eq_true rfl) (Nat.le_of_ble_eq_true rfl) (met_bl_girlAt hok hamb hst hL hg) (bq_pm [0, 4, 5, 6, 1, 2, 3, 7] rfl rfl rfl) (bq_pm [0, 4, 5, 6, 1, 2, 3, 7] rfl rfl rfl) (lw_V q1444 q1446 qs38 q113 q1447) (hd_X1_girlAt) (Nat.le_of_ble_eq_true rfl) (Nat.le_of_ble_eq_true rfl) (va_recv hK hP (ci := 1) (q0 := 0) rfl rfl) rfl hl.1 rfl (Nat.le_of_ble_eq_true rfl) dX1_missed_2 hP hD hS (fun ht_ H locs hP hD hS => ?_) (fun ht_ => ?_)
  · have hf := bq_ip ht_ hf
    have hkc : 1 ≤ 1 := by decide
    have hks : 6 ≤ 6 := by decide
    have hg_ := hg
    rw [ht_] at hg_
    refine lv_pop hx hb dX1_missed_5 rfl ?_
    refine lv_aload_n hx hb dX1_missed_6 rfl (lv_at hl 0 rfl) ?_
    refine lv_iload_n hx hb dX1_missed_7 rfl (lv_at hl 1 rfl) ?_
    refine lv_iconst (v := (0 : Int32)) hx hb dX1_missed_8 (by decide) ?_
    obtain ⟨v2, τ3, ν4, hg, hf⟩ := bq_b3s hf
    refine bq_cV (bs := [bbB d ba ca na ta ka ia β, stB d na σ, stB d ta τ, viB d ca ν, coB d ca dy fa κ, lsB d ca L mc E.1, giB ca E.1 κ, P]) (bc := [bbB d ba ca na ta ka ia β, stB d na σ, stB d ta τ, viB d ca ν, coB d ca dy fa κ, lsB d ca L mc E.1, giB ca E.1 κ, P]) (br := []) (bc' := [bbB d ba ca na ta ka ia β, stB d na σ, stB d ta τ3, viB d ca ν4, coB d ca dy fa κ, lsB d ca L mc E.1, giB ca E.1 κ, P]) (bs' := [bbB d ba ca na ta ka ia β, stB d na σ, stB d ta τ3, viB d ca ν4, coB d ca dy fa κ, lsB d ca L mc E.1, giB ca E.1 κ, P]) (As := [.int x1, .int (0 : Int32)]) (rest := []) (o := (some (.int v2))) C hkc hks (met_bl_allBy hok hamb hE hby hL hg) (bq_pm [0, 1, 2, 3, 4, 5, 6, 7] rfl rfl rfl) (bq_pm [0, 1, 2, 3, 4, 5, 6, 7] rfl rfl rfl) (lw_V q1602 q1604 qs41 q113 q1605) (hd_X1_allBy) (Nat.le_of_ble_eq_true rfl) (Nat.le_of_ble_eq_true rfl) (va_recv hK hP (ci := 1) (q0 := 0) rfl rfl) rfl hl.1 rfl (Nat.le_of_ble_eq_true rfl) dX1_missed_9 hP hD hS (fun H locs hP hD hS => ?_)
    refine lv_aload_n hx hb dX1_missed_12 rfl (lv_at hl 0 rfl) ?_
    refine lv_iload_n hx hb dX1_missed_13 rfl (lv_at hl 1 rfl) ?_
    refine lv_iconst (v := (1 : Int32)) hx hb dX1_missed_14 (by decide) ?_
    obtain ⟨v5, τ6, ν7, hg, hf⟩ := bq_b3s hf
    refine bq_cV (bs := [bbB d ba ca na ta ka ia β, stB d na σ, stB d ta τ3, viB d ca ν4, coB d ca dy fa κ, lsB d ca L mc E.1, giB ca E.1 κ, P]) (bc := [bbB d ba ca na ta ka ia β, stB d na σ, stB d ta τ3, viB d ca ν4, coB d ca dy fa κ, lsB d ca L mc E.1, giB ca E.1 κ, P]) (br := []) (bc' := [bbB d ba ca na ta ka ia β, stB d na σ, stB d ta τ6, viB d ca ν7, coB d ca dy fa κ, lsB d ca L mc E.1, giB ca E.1 κ, P]) (bs' := [bbB d ba ca na ta ka ia β, stB d na σ, stB d ta τ6, viB d ca ν7, coB d ca dy fa κ, lsB d ca L mc E.1, giB ca E.1 κ, P]) (As := [.int x1, .int (1 : Int32)]) (rest := [.int v2]) (o := (some (.int v5))) C hkc hks (met_bl_allBy hok hamb hE hby hL hg) (bq_pm [0, 1, 2, 3, 4, 5, 6, 7] rfl rfl rfl) (bq_pm [0, 1, 2, 3, 4, 5, 6, 7] rfl rfl rfl) (lw_V q1602 q1604 qs41 q113 q1605) (hd_X1_allBy) (Nat.le_of_ble_eq_true rfl) (Nat.le_of_ble_eq_true rfl) (va_recv hK hP (ci := 1) (q0 := 0) rfl rfl) rfl hl.1 rfl (Nat.le_of_ble_eq_true rfl) dX1_missed_15 hP hD hS (fun H locs hP hD hS => ?_)
    refine lv_isub hx hb dX1_missed_18 ?_
    obtain ⟨rfl, rfl, rfl, rfl⟩ := bq_p4 hf
    exact bq_iretX C hr (by decide) (by decide) hP hD hS dX1_missed_19
  · have hf := bq_in ht_ hf
    obtain ⟨rfl, rfl, rfl, rfl⟩ := bq_p4 hf
    exact bq_prop C hex ht_ (by decide) (by decide)
set_option maxHeartbeats 4000000 in
theorem met_bl_see {l : Launch} {D : va_G} {am : bqAm} {X vE sE : Nat → Nat} {d : Nat → ClassId} {ba ca ia ka na ta : Nat → Nat} {dy fa : Option Nat} {β : bqS} {μ : bqS} {κ : bqS} {μ' : bqS} {r : Int32} {tg : Nat} {x1 : Int32} {x2 : Int32} {x3 : Int32} (hok : bq_Ok am) (hamb : bq_Amb am X vE sE) (hst : l.stackTraces = false) (hf : bl_see β μ κ x1 x2 x3 = some (tg, r, μ')) : bq_X l yX1_see cX1_see 4 (some .int) 8 131 1 6 D bqCl (bqTy d) am [.ref (ba 0), .int x1, .int x2, .int x3] (List.flatten ([bbB d ba ca na ta ka ia β, bkB d ka na μ, coB d ca dy fa κ] : List va_W)) tg (some (.int r)) (List.flatten ([bbB d ba ca na ta ka ia β, bkB d ka na μ', coB d ca dy fa κ] : List va_W)) := by
  unfold bl_see at hf
  refine bq_ofX hok (by decide +kernel) (Nat.le_of_ble_eq_true rfl) ?_
  intro p e s m below meth c A ls C hr hex hP hD hS hl
  have C0 := C
  obtain ⟨hx, hb, hown, hts, hml, hlocks, hA, hK, hm, hRf, hRl, hok⟩ := C
  have C := C0
  have hkc := Nat.zero_le 1
  have hks := Nat.zero_le 6
  have hl : lv_has ls 4 [(0, .ref (ba 0)), (1, .int x1), (2, .int x2), (3, .int x3)] := hl
  refine lv_aload_n hx hb dX1_see_0 rfl (lv_at hl 0 rfl) ?_
  refine lv_iload_n hx hb dX1_see_1 rfl (lv_at hl 1 rfl) ?_
  obtain ⟨t1, hg, hf⟩ := bq_b1s hf
  refine bq_cVX (bs := [bbB d ba ca na ta ka ia β, bkB d ka na μ, coB d ca dy fa κ]) (bc := [bbB d ba ca na ta ka ia β, coB d ca dy fa κ]) (br := [bkB d ka na μ]) (bc' := [bbB d ba ca na ta ka ia β, coB d ca dy fa κ]) (bs' := [bbB d ba ca na ta ka ia β, bkB d ka na μ, coB d ca dy fa κ]) (As := [.int x1]) (rest := []) (o := none) C (Nat.le_of_ble_eq_true rfl) (Nat.le_of_ble_eq_true rfl) (met_bl_cellAt hok hamb hst hg) (bq_pm [0, 2, 1] rfl rfl rfl) (bq_pm [0, 2, 1] rfl rfl rfl) (lw_V q1423 q1425 qs35 q113 q1426) (hd_X1_cellAt) (Nat.le_of_ble_eq_true rfl) (Nat.le_of_ble_eq_true rfl) (va_recv hK hP (ci := 1) (q0 := 0) rfl rfl) rfl hl.1 rfl (Nat.le_of_ble_eq_true rfl) dX1_see_2 hP hD hS (fun ht_ H locs hP hD hS => ?_) (fun ht_ => ?_)
  · have hf := bq_ip ht_ hf
    have hkc : 1 ≤ 1 := by decide
    have hks : 6 ≤ 6 := by decide
    refine lv_aload_n hx hb dX1_see_5 rfl (lv_at hl 0 rfl) ?_
    refine gX1_get (own := RX1) (fs := (bbF ba ca na ta ka ia β)) (v := .ref (ka 0)) hx hb hts hown hK hP (q0 := 0) rfl 1 (Nat.le_of_ble_eq_true rfl) (hts _ q756) rfl dX1_see_6 ?_
    refine gX5_getN (own := RX1) (host := "BlueBag") (fs := (bkF ka na μ)) (v := .int (μ 0 7)) hx hb hts hown hK hP (q0 := 6) rfl 7 (Nat.le_of_ble_eq_true rfl) (bq_nF hamb hm 6 rfl) rfl dX1_see_9 ?_
    refine lv_bipush (v := (8 : Int32)) hx hb dX1_see_12 (by decide) ?_
    refine lv_icmp_eq (tgt := 37) hx hb dX1_see_14 (by decide) (fun c2 => ?_) (fun c2 => ?_)
    · have hf := bq_ip c2 hf
      refine lv_aload_n hx hb dX1_see_37 rfl (lv_at hl 0 rfl) ?_
      refine lv_iconst (v := (2 : Int32)) hx hb dX1_see_38 (by decide) ?_
      obtain ⟨v3, μ4, hg, hf⟩ := bq_b2s hf
      refine bq_cV (bs := [bbB d ba ca na ta ka ia β, bkB d ka na μ, coB d ca dy fa κ]) (bc := [bbB d ba ca na ta ka ia β, bkB d ka na μ]) (br := [coB d ca dy fa κ]) (bc' := [bbB d ba ca na ta ka ia β, bkB d ka na μ4]) (bs' := [bbB d ba ca na ta ka ia β, bkB d ka na μ4, coB d ca dy fa κ]) (As := [.int (2 : Int32)]) (rest := []) (o := (some (.int v3))) C hkc hks (met_bl_refuses hok hamb hg) (bq_pm [0, 1, 2] rfl rfl rfl) (bq_pm [0, 1, 2] rfl rfl rfl) (lw_V q840 q842 qs7 q113 q843) (hd_X1_refuses) (Nat.le_of_ble_eq_true rfl) (Nat.le_of_ble_eq_true rfl) (va_recv hK hP (ci := 1) (q0 := 0) rfl rfl) rfl hl.1 rfl (Nat.le_of_ble_eq_true rfl) dX1_see_39 hP hD hS (fun H locs hP hD hS => ?_)
      obtain ⟨rfl, rfl, rfl⟩ := bq_p3 hf
      exact bq_iretX C hr (by decide) (by decide) hP hD hS dX1_see_42
    · have hf := bq_in c2 hf
      refine lv_iload_n hx hb dX1_see_17 rfl (lv_at hl 2 rfl) ?_
      refine lv_iconst (v := (0 : Int32)) hx hb dX1_see_18 (by decide) ?_
      refine lv_bipush (v := (20 : Int32)) hx hb dX1_see_19 (by decide) ?_
      obtain ⟨v5, hg, hf⟩ := bq_b1s hf
      refine bq_cS (bs := [bbB d ba ca na ta ka ia β, bkB d ka na μ, coB d ca dy fa κ]) (bc := []) (br := [bbB d ba ca na ta ka ia β, bkB d ka na μ, coB d ca dy fa κ]) (bc' := []) (bs' := [bbB d ba ca na ta ka ia β, bkB d ka na μ, coB d ca dy fa κ]) (As := [.int x2, .int (0 : Int32), .int (20 : Int32)]) (rest := []) (o := (some (.int v5))) C hkc hks (met_bl_within hok hg) (bq_pm [0, 1, 2] rfl rfl rfl) (bq_pm [0, 1, 2] rfl rfl rfl) (lw_S q814 q815 q113 q816) (hd_X1_within) (Nat.le_of_ble_eq_true rfl) (Nat.le_of_ble_eq_true rfl) rfl hl.1 rfl (Nat.le_of_ble_eq_true rfl) dX1_see_21 hP hD hS (fun H locs hP hD hS => ?_)
      refine lv_if_eq (tgt := 37) hx hb dX1_see_24 (by decide) (fun c6 => ?_) (fun c6 => ?_)
      · have hf := bq_ip c6 hf
        refine lv_aload_n hx hb dX1_see_37 rfl (lv_at hl 0 rfl) ?_
        refine lv_iconst (v := (2 : Int32)) hx hb dX1_see_38 (by decide) ?_
        obtain ⟨v7, μ8, hg, hf⟩ := bq_b2s hf
        refine bq_cV (bs := [bbB d ba ca na ta ka ia β, bkB d ka na μ, coB d ca dy fa κ]) (bc := [bbB d ba ca na ta ka ia β, bkB d ka na μ]) (br := [coB d ca dy fa κ]) (bc' := [bbB d ba ca na ta ka ia β, bkB d ka na μ8]) (bs' := [bbB d ba ca na ta ka ia β, bkB d ka na μ8, coB d ca dy fa κ]) (As := [.int (2 : Int32)]) (rest := []) (o := (some (.int v7))) C hkc hks (met_bl_refuses hok hamb hg) (bq_pm [0, 1, 2] rfl rfl rfl) (bq_pm [0, 1, 2] rfl rfl rfl) (lw_V q840 q842 qs7 q113 q843) (hd_X1_refuses) (Nat.le_of_ble_eq_true rfl) (Nat.le_of_ble_eq_true rfl) (va_recv hK hP (ci := 1) (q0 := 0) rfl rfl) rfl hl.1 rfl (Nat.le_of_ble_eq_true rfl) dX1_see_39 hP hD hS (fun H locs hP hD hS => ?_)
        obtain ⟨rfl, rfl, rfl⟩ := bq_p3 hf
        exact bq_iretX C hr (by decide) (by decide) hP hD hS dX1_see_42
      · have hf := bq_in c6 hf
        refine lv_iload_n hx hb dX1_see_27 rfl (lv_at hl 3 rfl) ?_
        refine lv_iconst (v := (0 : Int32)) hx hb dX1_see_28 (by decide) ?_
        refine lv_bipush (v := (99 : Int32)) hx hb dX1_see_29 (by decide) ?_
        obtain ⟨v9, hg, hf⟩ := bq_b1s hf
        refine bq_cS (bs := [bbB d ba ca na ta ka ia β, bkB d ka na μ, coB d ca dy fa κ]) (bc := []) (br := [bbB d ba ca na ta ka ia β, bkB d ka na μ, coB d ca dy fa κ]) (bc' := []) (bs' := [bbB d ba ca na ta ka ia β, bkB d ka na μ, coB d ca dy fa κ]) (As := [.int x3, .int (0 : Int32), .int (99 : Int32)]) (rest := []) (o := (some (.int v9))) C hkc hks (met_bl_within hok hg) (bq_pm [0, 1, 2] rfl rfl rfl) (bq_pm [0, 1, 2] rfl rfl rfl) (lw_S q814 q815 q113 q816) (hd_X1_within) (Nat.le_of_ble_eq_true rfl) (Nat.le_of_ble_eq_true rfl) rfl hl.1 rfl (Nat.le_of_ble_eq_true rfl) dX1_see_31 hP hD hS (fun H locs hP hD hS => ?_)
        refine lv_if_ne (tgt := 43) hx hb dX1_see_34 (by decide) (fun c10 => ?_) (fun c10 => ?_)
        · have hf := bq_in c10 hf
          refine lv_aload_n hx hb dX1_see_43 rfl (lv_at hl 0 rfl) ?_
          refine gX1_get (own := RX1) (fs := (bbF ba ca na ta ka ia β)) (v := .ref (ka 0)) hx hb hts hown hK hP (q0 := 0) rfl 1 (Nat.le_of_ble_eq_true rfl) (hts _ q756) rfl dX1_see_44 ?_
          refine gX5_getN (own := RX1) (host := "BlueBag") (fs := (bkF ka na μ)) (v := .ref (ka 1)) hx hb hts hown hK hP (q0 := 6) rfl 2 (Nat.le_of_ble_eq_true rfl) (bq_nF hamb hm 20 rfl) rfl dX1_see_47 ?_
          refine lv_aload_n hx hb dX1_see_50 rfl (lv_at hl 0 rfl) ?_
          refine gX1_get (own := RX1) (fs := (bbF ba ca na ta ka ia β)) (v := .ref (ka 0)) hx hb hts hown hK hP (q0 := 0) rfl 1 (Nat.le_of_ble_eq_true rfl) (hts _ q756) rfl dX1_see_51 ?_
          refine gX5_getN (own := RX1) (host := "BlueBag") (fs := (bkF ka na μ)) (v := .int (μ 0 7)) hx hb hts hown hK hP (q0 := 6) rfl 7 (Nat.le_of_ble_eq_true rfl) (bq_nF hamb hm 6 rfl) rfl dX1_see_54 ?_
          refine lv_iload_n hx hb dX1_see_57 rfl (lv_at hl 1 rfl) ?_
          obtain ⟨h11, hf⟩ := bq_cks hf
          obtain ⟨μ12, eμ12, hf⟩ := bq_lts hf
          refine bq_ist (j := ((μ 0 7).toNatClampNeg)) (f := μ 1) (ws' := (List.flatten ([bbB d ba ca na ta ka ia β, bkB d ka na (bq_up μ 1 ((μ 0 7).toNatClampNeg) x1), coB d ca dy fa κ] : List va_W))) hx hb hK hP hD hS 7 rfl rfl h11 rfl rfl dX1_see_58 (fun H locs hP hD hS => ?_)
          rw [← eμ12] at hP hD
          refine lv_aload_n hx hb dX1_see_59 rfl (lv_at hl 0 rfl) ?_
          refine gX1_get (own := RX1) (fs := (bbF ba ca na ta ka ia β)) (v := .ref (ka 0)) hx hb hts hown hK hP (q0 := 0) rfl 1 (Nat.le_of_ble_eq_true rfl) (hts _ q756) rfl dX1_see_60 ?_
          refine gX5_getN (own := RX1) (host := "BlueBag") (fs := (bkF ka na μ12)) (v := .ref (ka 2)) hx hb hts hown hK hP (q0 := 6) rfl 3 (Nat.le_of_ble_eq_true rfl) (bq_nF hamb hm 21 rfl) rfl dX1_see_63 ?_
          refine lv_aload_n hx hb dX1_see_66 rfl (lv_at hl 0 rfl) ?_
          refine gX1_get (own := RX1) (fs := (bbF ba ca na ta ka ia β)) (v := .ref (ka 0)) hx hb hts hown hK hP (q0 := 0) rfl 1 (Nat.le_of_ble_eq_true rfl) (hts _ q756) rfl dX1_see_67 ?_
          refine gX5_getN (own := RX1) (host := "BlueBag") (fs := (bkF ka na μ12)) (v := .int (μ12 0 7)) hx hb hts hown hK hP (q0 := 6) rfl 7 (Nat.le_of_ble_eq_true rfl) (bq_nF hamb hm 6 rfl) rfl dX1_see_70 ?_
          refine lv_iload_n hx hb dX1_see_73 rfl (lv_at hl 2 rfl) ?_
          obtain ⟨h13, hf⟩ := bq_cks hf
          obtain ⟨μ14, eμ14, hf⟩ := bq_lts hf
          refine bq_ist (j := ((μ12 0 7).toNatClampNeg)) (f := μ12 2) (ws' := (List.flatten ([bbB d ba ca na ta ka ia β, bkB d ka na (bq_up μ12 2 ((μ12 0 7).toNatClampNeg) x2), coB d ca dy fa κ] : List va_W))) hx hb hK hP hD hS 8 rfl rfl h13 rfl rfl dX1_see_74 (fun H locs hP hD hS => ?_)
          rw [← eμ14] at hP hD
          refine lv_aload_n hx hb dX1_see_75 rfl (lv_at hl 0 rfl) ?_
          refine gX1_get (own := RX1) (fs := (bbF ba ca na ta ka ia β)) (v := .ref (ka 0)) hx hb hts hown hK hP (q0 := 0) rfl 1 (Nat.le_of_ble_eq_true rfl) (hts _ q756) rfl dX1_see_76 ?_
          refine gX5_getN (own := RX1) (host := "BlueBag") (fs := (bkF ka na μ14)) (v := .ref (ka 3)) hx hb hts hown hK hP (q0 := 6) rfl 4 (Nat.le_of_ble_eq_true rfl) (bq_nF hamb hm 22 rfl) rfl dX1_see_79 ?_
          refine lv_aload_n hx hb dX1_see_82 rfl (lv_at hl 0 rfl) ?_
          refine gX1_get (own := RX1) (fs := (bbF ba ca na ta ka ia β)) (v := .ref (ka 0)) hx hb hts hown hK hP (q0 := 0) rfl 1 (Nat.le_of_ble_eq_true rfl) (hts _ q756) rfl dX1_see_83 ?_
          refine gX5_getN (own := RX1) (host := "BlueBag") (fs := (bkF ka na μ14)) (v := .int (μ14 0 7)) hx hb hts hown hK hP (q0 := 6) rfl 7 (Nat.le_of_ble_eq_true rfl) (bq_nF hamb hm 6 rfl) rfl dX1_see_86 ?_
          refine lv_iload_n hx hb dX1_see_89 rfl (lv_at hl 3 rfl) ?_
          obtain ⟨h15, hf⟩ := bq_cks hf
          obtain ⟨μ16, eμ16, hf⟩ := bq_lts hf
          refine bq_ist (j := ((μ14 0 7).toNatClampNeg)) (f := μ14 3) (ws' := (List.flatten ([bbB d ba ca na ta ka ia β, bkB d ka na (bq_up μ14 3 ((μ14 0 7).toNatClampNeg) x3), coB d ca dy fa κ] : List va_W))) hx hb hK hP hD hS 9 rfl rfl h15 rfl rfl dX1_see_90 (fun H locs hP hD hS => ?_)
          rw [← eμ16] at hP hD
          refine lv_aload_n hx hb dX1_see_91 rfl (lv_at hl 0 rfl) ?_
          refine gX1_get (own := RX1) (fs := (bbF ba ca na ta ka ia β)) (v := .ref (ka 0)) hx hb hts hown hK hP (q0 := 0) rfl 1 (Nat.le_of_ble_eq_true rfl) (hts _ q756) rfl dX1_see_92 ?_
          refine lv_dup hx hb dX1_see_95 rfl ?_
          refine gX5_getN (own := RX1) (host := "BlueBag") (fs := (bkF ka na μ16)) (v := .int (μ16 0 7)) hx hb hts hown hK hP (q0 := 6) rfl 7 (Nat.le_of_ble_eq_true rfl) (bq_nF hamb hm 6 rfl) rfl dX1_see_96 ?_
          refine lv_iconst (v := (1 : Int32)) hx hb dX1_see_99 (by decide) ?_
          refine lv_iadd hx hb dX1_see_100 ?_
          obtain ⟨μ17, eμ17, hf⟩ := bq_lts hf
          refine gX5_putN (own := RX1) (host := "BlueBag") (fs := (bkF ka na μ16)) (ty := .int) (ws' := (List.flatten ([bbB d ba ca na ta ka ia β, bkB d ka na (bq_up μ16 0 7 ((μ16 0 7) + (1 : Int32))), coB d ca dy fa κ] : List va_W))) hx hb hts hown hK hP hD hS (q0 := 6) rfl 7 (Nat.le_of_ble_eq_true rfl) (bq_nF hamb hm 6 rfl) rfl rfl rfl rfl (Nat.le_of_ble_eq_true rfl) rfl dX1_see_101 (fun H locs hP hD hS => ?_)
          rw [← eμ17] at hP hD
          refine lv_aload_n hx hb dX1_see_104 rfl (lv_at hl 0 rfl) ?_
          refine gX1_get (own := RX1) (fs := (bbF ba ca na ta ka ia β)) (v := .ref (ka 0)) hx hb hts hown hK hP (q0 := 0) rfl 1 (Nat.le_of_ble_eq_true rfl) (hts _ q756) rfl dX1_see_105 ?_
          refine gX5_getN (own := RX1) (host := "BlueBag") (fs := (bkF ka na μ17)) (v := .int (μ17 0 7)) hx hb hts hown hK hP (q0 := 6) rfl 7 (Nat.le_of_ble_eq_true rfl) (bq_nF hamb hm 6 rfl) rfl dX1_see_108 ?_
          obtain ⟨rfl, rfl, rfl⟩ := bq_p3 hf
          exact bq_iretX C hr (by decide) (by decide) hP hD hS dX1_see_111
        · have hf := bq_ip c10 hf
          refine lv_aload_n hx hb dX1_see_37 rfl (lv_at hl 0 rfl) ?_
          refine lv_iconst (v := (2 : Int32)) hx hb dX1_see_38 (by decide) ?_
          obtain ⟨v18, μ19, hg, hf⟩ := bq_b2s hf
          refine bq_cV (bs := [bbB d ba ca na ta ka ia β, bkB d ka na μ, coB d ca dy fa κ]) (bc := [bbB d ba ca na ta ka ia β, bkB d ka na μ]) (br := [coB d ca dy fa κ]) (bc' := [bbB d ba ca na ta ka ia β, bkB d ka na μ19]) (bs' := [bbB d ba ca na ta ka ia β, bkB d ka na μ19, coB d ca dy fa κ]) (As := [.int (2 : Int32)]) (rest := []) (o := (some (.int v18))) C hkc hks (met_bl_refuses hok hamb hg) (bq_pm [0, 1, 2] rfl rfl rfl) (bq_pm [0, 1, 2] rfl rfl rfl) (lw_V q840 q842 qs7 q113 q843) (hd_X1_refuses) (Nat.le_of_ble_eq_true rfl) (Nat.le_of_ble_eq_true rfl) (va_recv hK hP (ci := 1) (q0 := 0) rfl rfl) rfl hl.1 rfl (Nat.le_of_ble_eq_true rfl) dX1_see_39 hP hD hS (fun H locs hP hD hS => ?_)
          obtain ⟨rfl, rfl, rfl⟩ := bq_p3 hf
          exact bq_iretX C hr (by decide) (by decide) hP hD hS dX1_see_42
  · have hf := bq_in ht_ hf
    obtain ⟨rfl, rfl, rfl⟩ := bq_p3 hf
    exact bq_prop C hex ht_ (by decide) (by decide)
set_option maxHeartbeats 4000000 in
theorem wk_bl_isSeen_L33 {p : Program} {e : Env} {R : Room} {s : State} {m : MethodId} {args : Array Value} {below : List Frame} {meth : Method} {c : Code} {A : Nat → Prop} {kc ks : Nat} {Q : State → Prop} {l : Launch} {D : va_G} {am : bqAm} {X vE sE : Nat → Nat} {d : Nat → ClassId} {ba ca ia ka na ta : Nat → Nat} {dy fa : Option Nat} {L : Nat} {mc : Int32} {P : va_W} {F : Nat} {E : bqE} (C : bq_C p R s m args meth c A D bqCl (bqTy d) am cX1_isSeen 3 RX1 804 24130) (hkc : kc ≤ R.cells) (hks : ks ≤ R.slots) (hamb : bq_Amb am X vE sE) (hE : bq_E P vE dy fa E) (hby : bq_By l D am d ca vE P 400) (hL : E.1 ≤ L ∧ L < 2147483648) {β : bqS} {σ : bqS} {τ : bqS} {μ : bqS} {ν : bqS} {κ : bqS} :
    ∀ (k : Nat) (x1 : Int32) (x2 : Int32) (tg : Nat) (H : Heap) (locs : List Loc), bl_isSeen_L33 F E β σ τ μ ν κ k x1 x2 = some tg → va_P D bqCl (List.flatten ([bbB d ba ca na ta ka ia β, stB d na σ, stB d ta τ, bkB d ka na μ, viB d ca ν, coB d ca dy fa κ, lsB d ca L mc E.1, giB ca E.1 κ, P] : List va_W)) H → va_D A (List.flatten ([bbB d ba ca na ta ka ia β, stB d na σ, stB d ta τ, bkB d ka na μ, viB d ca ν, coB d ca dy fa κ, lsB d ca L mc E.1, giB ca E.1 κ, P] : List va_W)) → va_S A s.heap H locs → ∀ ls : Array Slot, lv_has ls 3 [(0, .ref (ba 0)), (1, .int x1), (2, .int x2)] →
      (tg = 0 → ∀ (H : Heap) (locs : List Loc), va_P D bqCl (List.flatten ([bbB d ba ca na ta ka ia β, stB d na σ, stB d ta τ, bkB d ka na μ, viB d ca ν, coB d ca dy fa κ, lsB d ca L mc E.1, giB ca E.1 κ, P] : List va_W)) H → va_D A (List.flatten ([bbB d ba ca na ta ka ia β, stB d na σ, stB d ta τ, bkB d ka na μ, viB d ca ν, coB d ca dy fa κ, lsB d ca L mc E.1, giB ca E.1 κ, P] : List va_W)) → va_S A s.heap H locs → ∀ ls : Array Slot, lv_has ls 3 [] → W p l e R s m args below meth c H locs kc ks Q (F0 m 86 ls [])) →
      (tg = 1 → ∀ (H : Heap) (locs : List Loc), va_P D bqCl (List.flatten ([bbB d ba ca na ta ka ia β, stB d na σ, stB d ta τ, bkB d ka na μ, viB d ca ν, coB d ca dy fa κ, lsB d ca L mc E.1, giB ca E.1 κ, P] : List va_W)) H → va_D A (List.flatten ([bbB d ba ca na ta ka ia β, stB d na σ, stB d ta τ, bkB d ka na μ, viB d ca ν, coB d ca dy fa κ, lsB d ca L mc E.1, giB ca E.1 κ, P] : List va_W)) → va_S A s.heap H locs → ∀ ls : Array Slot, lv_has ls 3 [(0, .ref (ba 0)), (1, .int x1)] → W p l e R s m args below meth c H locs kc ks Q (F0 m 94 ls [])) →
      W p l e R s m args below meth c H locs kc ks Q (F0 m 33 ls []) := by
  have C0 := C
  obtain ⟨hx, hb, hown, hts, hml, hlocks, hA, hK, hm, hRf, hRl, hok⟩ := C
  have C := C0
  intro k
  induction k with
  | zero => intro x1 x2 tg H locs hf
            cases hf
  | succ k ih =>
    intro x1 x2 tg H locs hf hP hD hS ls hl hk0 hk1
    rw [bl_isSeen_L33] at hf
    refine lv_iload_n hx hb dX1_isSeen_33 rfl (lv_at hl 2 rfl) ?_
    refine lv_aload_n hx hb dX1_isSeen_34 rfl (lv_at hl 0 rfl) ?_
    refine gX1_get (own := RX1) (fs := (bbF ba ca na ta ka ia β)) (v := .ref (ka 0)) hx hb hts hown hK hP (q0 := 0) rfl 1 (Nat.le_of_ble_eq_true rfl) (hts _ q756) rfl dX1_isSeen_35 ?_
    refine gX5_getN (own := RX1) (host := "BlueBag") (fs := (bkF ka na μ)) (v := .int (μ 0 7)) hx hb hts hown hK hP (q0 := 16) rfl 7 (Nat.le_of_ble_eq_true rfl) (bq_nF hamb hm 6 rfl) rfl dX1_isSeen_38 ?_
    refine lv_icmp_ge (tgt := 94) hx hb dX1_isSeen_41 (by decide) (fun c3 => ?_) (fun c3 => ?_)
    · have hf := bq_ip c3 hf
      obtain rfl := Option.some.inj hf
      exact hk1 rfl _ _ hP hD hS ls (lv_sub hl [0, 1] rfl)
    · have hf := bq_in c3 hf
      refine lv_aload_n hx hb dX1_isSeen_44 rfl (lv_at hl 0 rfl) ?_
      refine gX1_get (own := RX1) (fs := (bbF ba ca na ta ka ia β)) (v := .ref (ka 0)) hx hb hts hown hK hP (q0 := 0) rfl 1 (Nat.le_of_ble_eq_true rfl) (hts _ q756) rfl dX1_isSeen_45 ?_
      refine gX5_getN (own := RX1) (host := "BlueBag") (fs := (bkF ka na μ)) (v := .ref (ka 2)) hx hb hts hown hK hP (q0 := 16) rfl 3 (Nat.le_of_ble_eq_true rfl) (bq_nF hamb hm 21 rfl) rfl dX1_isSeen_48 ?_
      refine lv_iload_n hx hb dX1_isSeen_51 rfl (lv_at hl 2 rfl) ?_
      obtain ⟨h4, hf⟩ := bq_cks hf
      refine bq_ild (j := x2.toNatClampNeg) (f := μ 2) (q := 0) hx hb hK hP 18 rfl rfl h4 rfl dX1_isSeen_52 ?_
      refine lv_iload_n hx hb dX1_isSeen_53 rfl (lv_at hl 1 rfl) ?_
      refine lv_icmp_ne (tgt := 88) hx hb dX1_isSeen_54 (by decide) (fun c5 => ?_) (fun c5 => ?_)
      · have hf := bq_in c5 hf
        obtain ⟨v6, ev6, hf⟩ := bq_lts hf
        refine lv_iinc (v := v6) (lv' := [(2, .int v6), (0, .ref (ba 0)), (1, .int x1)]) hx hb dX1_isSeen_88 hl (k := 2) rfl (bq_inc (by decide) ev6) (by decide) rfl (fun ls hl => ?_)
        refine lv_goto (tgt := 33) hx hb dX1_isSeen_91 (by decide) ?_
        exact ih _ _ _ _ _ hf hP hD hS ls (lv_sub hl [1, 2, 0] rfl) hk0 hk1
      · have hf := bq_ip c5 hf
        refine lv_aload_n hx hb dX1_isSeen_57 rfl (lv_at hl 0 rfl) ?_
        refine gX1_get (own := RX1) (fs := (bbF ba ca na ta ka ia β)) (v := .ref (ta 0)) hx hb hts hown hK hP (q0 := 0) rfl 4 (Nat.le_of_ble_eq_true rfl) (hts _ q759) rfl dX1_isSeen_58 ?_
        refine gX6_getN (own := RX1) (host := "BlueBag") (fs := (stF ta τ)) (v := .ref (ta 1)) hx hb hts hown hK hP (q0 := 11) rfl 0 (Nat.le_of_ble_eq_true rfl) (bq_nF hamb hm 15 rfl) rfl dX1_isSeen_61 ?_
        refine lv_aload_n hx hb dX1_isSeen_64 rfl (lv_at hl 0 rfl) ?_
        refine gX1_get (own := RX1) (fs := (bbF ba ca na ta ka ia β)) (v := .ref (ka 0)) hx hb hts hown hK hP (q0 := 0) rfl 1 (Nat.le_of_ble_eq_true rfl) (hts _ q756) rfl dX1_isSeen_65 ?_
        refine gX5_getN (own := RX1) (host := "BlueBag") (fs := (bkF ka na μ)) (v := .ref (ka 1)) hx hb hts hown hK hP (q0 := 16) rfl 2 (Nat.le_of_ble_eq_true rfl) (bq_nF hamb hm 20 rfl) rfl dX1_isSeen_68 ?_
        refine lv_iload_n hx hb dX1_isSeen_71 rfl (lv_at hl 2 rfl) ?_
        obtain ⟨h7, hf⟩ := bq_cks hf
        refine bq_ild (j := x2.toNatClampNeg) (f := μ 1) (q := 0) hx hb hK hP 17 rfl rfl h7 rfl dX1_isSeen_72 ?_
        obtain ⟨h8, hf⟩ := bq_cks hf
        refine bq_ild (j := ((μ 1 x2.toNatClampNeg).toNatClampNeg)) (f := τ 1) (q := 0) hx hb hK hP 12 rfl rfl h8 rfl dX1_isSeen_73 ?_
        refine lv_aload_n hx hb dX1_isSeen_74 rfl (lv_at hl 0 rfl) ?_
        refine gX1_get (own := RX1) (fs := (bbF ba ca na ta ka ia β)) (v := .ref (ka 0)) hx hb hts hown hK hP (q0 := 0) rfl 1 (Nat.le_of_ble_eq_true rfl) (hts _ q756) rfl dX1_isSeen_75 ?_
        refine gX5_getN (own := RX1) (host := "BlueBag") (fs := (bkF ka na μ)) (v := .ref (ka 3)) hx hb hts hown hK hP (q0 := 16) rfl 4 (Nat.le_of_ble_eq_true rfl) (bq_nF hamb hm 22 rfl) rfl dX1_isSeen_78 ?_
        refine lv_iload_n hx hb dX1_isSeen_81 rfl (lv_at hl 2 rfl) ?_
        obtain ⟨h9, hf⟩ := bq_cks hf
        refine bq_ild (j := x2.toNatClampNeg) (f := μ 3) (q := 0) hx hb hK hP 19 rfl rfl h9 rfl dX1_isSeen_82 ?_
        refine lv_icmp_eq (tgt := 88) hx hb dX1_isSeen_83 (by decide) (fun c10 => ?_) (fun c10 => ?_)
        · have hf := bq_ip c10 hf
          obtain ⟨v11, ev11, hf⟩ := bq_lts hf
          refine lv_iinc (v := v11) (lv' := [(2, .int v11), (0, .ref (ba 0)), (1, .int x1)]) hx hb dX1_isSeen_88 hl (k := 2) rfl (bq_inc (by decide) ev11) (by decide) rfl (fun ls hl => ?_)
          refine lv_goto (tgt := 33) hx hb dX1_isSeen_91 (by decide) ?_
          exact ih _ _ _ _ _ hf hP hD hS ls (lv_sub hl [1, 2, 0] rfl) hk0 hk1
        · have hf := bq_in c10 hf
          obtain rfl := Option.some.inj hf
          exact hk0 rfl _ _ hP hD hS ls (lv_sub hl [] rfl)
set_option maxHeartbeats 4000000 in
theorem wk_bl_isSeen_J31 {p : Program} {e : Env} {R : Room} {s : State} {m : MethodId} {args : Array Value} {below : List Frame} {meth : Method} {c : Code} {A : Nat → Prop} {kc ks : Nat} {Q : State → Prop} {l : Launch} {D : va_G} {am : bqAm} {X vE sE : Nat → Nat} {d : Nat → ClassId} {ba ca ia ka na ta : Nat → Nat} {dy fa : Option Nat} {L : Nat} {mc : Int32} {P : va_W} {F : Nat} {E : bqE} (C : bq_C p R s m args meth c A D bqCl (bqTy d) am cX1_isSeen 3 RX1 804 24130) (hkc : kc ≤ R.cells) (hks : ks ≤ R.slots) (hamb : bq_Amb am X vE sE) (hE : bq_E P vE dy fa E) (hby : bq_By l D am d ca vE P 400) (hL : E.1 ≤ L ∧ L < 2147483648) (rec : Int32 → bqS → bqS → bqS → Option (Nat × bqS × bqS × bqS)) (β : bqS) (σ : bqS) (τ : bqS) (μ : bqS) (ν : bqS) (κ : bqS) (x1 : Int32) (tg : Nat) (β' : bqS) (τ' : bqS) (ν' : bqS) (H : Heap) (locs : List Loc) :
      (∀ (z1 : Int32) (uβ : bqS) (uτ : bqS) (uν : bqS) (H : Heap) (locs : List Loc), rec z1 uβ uτ uν = some (tg, β', τ', ν') → va_P D bqCl (List.flatten ([bbB d ba ca na ta ka ia uβ, stB d na σ, stB d ta uτ, bkB d ka na μ, viB d ca uν, coB d ca dy fa κ, lsB d ca L mc E.1, giB ca E.1 κ, P] : List va_W)) H → va_D A (List.flatten ([bbB d ba ca na ta ka ia uβ, stB d na σ, stB d ta uτ, bkB d ka na μ, viB d ca uν, coB d ca dy fa κ, lsB d ca L mc E.1, giB ca E.1 κ, P] : List va_W)) → va_S A s.heap H locs → ∀ ls : Array Slot, lv_has ls 3 [(0, .ref (ba 0)), (1, .int z1)] → W p l e R s m args below meth c H locs kc ks Q (F0 m 2 ls [])) →
      bl_isSeen_J31 F E rec β σ τ μ ν κ x1 = some (tg, β', τ', ν') → va_P D bqCl (List.flatten ([bbB d ba ca na ta ka ia β, stB d na σ, stB d ta τ, bkB d ka na μ, viB d ca ν, coB d ca dy fa κ, lsB d ca L mc E.1, giB ca E.1 κ, P] : List va_W)) H → va_D A (List.flatten ([bbB d ba ca na ta ka ia β, stB d na σ, stB d ta τ, bkB d ka na μ, viB d ca ν, coB d ca dy fa κ, lsB d ca L mc E.1, giB ca E.1 κ, P] : List va_W)) → va_S A s.heap H locs → ∀ ls : Array Slot, lv_has ls 3 [(0, .ref (ba 0)), (1, .int x1)] →
      (tg = 0 → ∀ (H : Heap) (locs : List Loc), va_P D bqCl (List.flatten ([bbB d ba ca na ta ka ia β', stB d na σ, stB d ta τ', bkB d ka na μ, viB d ca ν', coB d ca dy fa κ, lsB d ca L mc E.1, giB ca E.1 κ, P] : List va_W)) H → va_D A (List.flatten ([bbB d ba ca na ta ka ia β', stB d na σ, stB d ta τ', bkB d ka na μ, viB d ca ν', coB d ca dy fa κ, lsB d ca L mc E.1, giB ca E.1 κ, P] : List va_W)) → va_S A s.heap H locs → ∀ ls : Array Slot, lv_has ls 3 [] → W p l e R s m args below meth c H locs kc ks Q (F0 m 86 ls [])) →
      (tg = 1 → ∀ (H : Heap) (locs : List Loc), va_P D bqCl (List.flatten ([bbB d ba ca na ta ka ia β', stB d na σ, stB d ta τ', bkB d ka na μ, viB d ca ν', coB d ca dy fa κ, lsB d ca L mc E.1, giB ca E.1 κ, P] : List va_W)) H → va_D A (List.flatten ([bbB d ba ca na ta ka ia β', stB d na σ, stB d ta τ', bkB d ka na μ, viB d ca ν', coB d ca dy fa κ, lsB d ca L mc E.1, giB ca E.1 κ, P] : List va_W)) → va_S A s.heap H locs → ∀ ls : Array Slot, lv_has ls 3 [] → W p l e R s m args below meth c H locs kc ks Q (F0 m 111 ls [])) →
      W p l e R s m args below meth c H locs kc ks Q (F0 m 31 ls []) := by
  have C0 := C
  obtain ⟨hx, hb, hown, hts, hml, hlocks, hA, hK, hm, hRf, hRl, hok⟩ := C
  have C := C0
  intro hrec hf hP hD hS ls hl hk0 hk1
  unfold bl_isSeen_J31 at hf
  refine lv_iconst (v := (0 : Int32)) hx hb dX1_isSeen_31 (by decide) ?_
  refine lv_istore_n (lv' := [(2, .int (0 : Int32)), (0, .ref (ba 0)), (1, .int x1)]) hx hb dX1_isSeen_32 rfl hl (by decide) rfl (fun ls hl => ?_)
  obtain ⟨t12, hg, hf⟩ := bq_b1s hf
  refine wk_bl_isSeen_L33 C hkc hks hamb hE hby hL _ _ _ _ _ _ hg hP hD hS ls (lv_sub hl [1, 2, 0] rfl) ?_ ?_
  · intro ht_
    intro H locs hP hD hS ls hl
    have hf := bq_ip ht_ hf
    obtain ⟨rfl, rfl, rfl, rfl⟩ := bq_p4 hf
    exact hk0 rfl _ _ hP hD hS ls (lv_sub hl [] rfl)
  · intro ht_
    intro H locs hP hD hS ls hl
    have hf := bq_in (by rw [ht_]; decide) hf
    refine lv_aload_n hx hb dX1_isSeen_94 rfl (lv_at hl 0 rfl) ?_
    refine gX1_get (own := RX1) (fs := (bbF ba ca na ta ka ia β)) (v := .ref (ta 0)) hx hb hts hown hK hP (q0 := 0) rfl 4 (Nat.le_of_ble_eq_true rfl) (hts _ q759) rfl dX1_isSeen_95 ?_
    refine lv_aload_n hx hb dX1_isSeen_98 rfl (lv_at hl 0 rfl) ?_
    refine gX1_get (own := RX1) (fs := (bbF ba ca na ta ka ia β)) (v := .ref (ca 0)) hx hb hts hown hK hP (q0 := 0) rfl 0 (Nat.le_of_ble_eq_true rfl) (hts _ q755) rfl dX1_isSeen_99 ?_
    obtain ⟨τ13, ν14, hg, hf⟩ := bq_b2s hf
    refine bq_cV (bs := [bbB d ba ca na ta ka ia β, stB d na σ, stB d ta τ, bkB d ka na μ, viB d ca ν, coB d ca dy fa κ, lsB d ca L mc E.1, giB ca E.1 κ, P]) (bc := [stB d ta τ, viB d ca ν, coB d ca dy fa κ, lsB d ca L mc E.1, giB ca E.1 κ, P]) (br := [bbB d ba ca na ta ka ia β, stB d na σ, bkB d ka na μ]) (bc' := [stB d ta τ13, viB d ca ν14, coB d ca dy fa κ, lsB d ca L mc E.1, giB ca E.1 κ, P]) (bs' := [bbB d ba ca na ta ka ia β, stB d na σ, stB d ta τ13, bkB d ka na μ, viB d ca ν14, coB d ca dy fa κ, lsB d ca L mc E.1, giB ca E.1 κ, P]) (As := [.ref (ca 0)]) (rest := []) (o := none) C hkc hks (met_st_goes hok hamb hE hby hL hg) (bq_pm [2, 4, 5, 6, 7, 8, 0, 1, 3] rfl rfl rfl) (bq_pm [6, 7, 0, 8, 1, 2, 3, 4, 5] rfl rfl rfl) (lw_V q844 q845 q846 q138 q847) (hd_X6_goes) (Nat.le_of_ble_eq_true rfl) (Nat.le_of_ble_eq_true rfl) (va_recv hK hP (ci := 5) (q0 := 11) rfl rfl) rfl hl.1 rfl (Nat.le_of_ble_eq_true rfl) dX1_isSeen_102 hP hD hS (fun H locs hP hD hS => ?_)
    obtain ⟨v15, ev15, hf⟩ := bq_lts hf
    refine lv_iinc (v := v15) (lv' := [(1, .int v15), (0, .ref (ba 0))]) hx hb dX1_isSeen_105 hl (k := 1) rfl (bq_inc (by decide) ev15) (by decide) rfl (fun ls hl => ?_)
    refine lv_goto (tgt := 2) hx hb dX1_isSeen_108 (by decide) ?_
    exact hrec _ _ _ _ _ _ hf hP hD hS ls (lv_sub hl [1, 0] rfl)
set_option maxHeartbeats 4000000 in
theorem wk_bl_isSeen_L2 {p : Program} {e : Env} {R : Room} {s : State} {m : MethodId} {args : Array Value} {below : List Frame} {meth : Method} {c : Code} {A : Nat → Prop} {kc ks : Nat} {Q : State → Prop} {l : Launch} {D : va_G} {am : bqAm} {X vE sE : Nat → Nat} {d : Nat → ClassId} {ba ca ia ka na ta : Nat → Nat} {dy fa : Option Nat} {L : Nat} {mc : Int32} {P : va_W} {F : Nat} {E : bqE} (C : bq_C p R s m args meth c A D bqCl (bqTy d) am cX1_isSeen 3 RX1 804 24130) (hkc : kc ≤ R.cells) (hks : ks ≤ R.slots) (hamb : bq_Amb am X vE sE) (hE : bq_E P vE dy fa E) (hby : bq_By l D am d ca vE P 400) (hL : E.1 ≤ L ∧ L < 2147483648) {σ : bqS} {μ : bqS} {κ : bqS} :
    ∀ (k : Nat) (x1 : Int32) (β : bqS) (τ : bqS) (ν : bqS) (tg : Nat) (β' : bqS) (τ' : bqS) (ν' : bqS) (H : Heap) (locs : List Loc), bl_isSeen_L2 F E σ μ κ k x1 β τ ν = some (tg, β', τ', ν') → va_P D bqCl (List.flatten ([bbB d ba ca na ta ka ia β, stB d na σ, stB d ta τ, bkB d ka na μ, viB d ca ν, coB d ca dy fa κ, lsB d ca L mc E.1, giB ca E.1 κ, P] : List va_W)) H → va_D A (List.flatten ([bbB d ba ca na ta ka ia β, stB d na σ, stB d ta τ, bkB d ka na μ, viB d ca ν, coB d ca dy fa κ, lsB d ca L mc E.1, giB ca E.1 κ, P] : List va_W)) → va_S A s.heap H locs → ∀ ls : Array Slot, lv_has ls 3 [(0, .ref (ba 0)), (1, .int x1)] →
      (tg = 0 → ∀ (H : Heap) (locs : List Loc), va_P D bqCl (List.flatten ([bbB d ba ca na ta ka ia β', stB d na σ, stB d ta τ', bkB d ka na μ, viB d ca ν', coB d ca dy fa κ, lsB d ca L mc E.1, giB ca E.1 κ, P] : List va_W)) H → va_D A (List.flatten ([bbB d ba ca na ta ka ia β', stB d na σ, stB d ta τ', bkB d ka na μ, viB d ca ν', coB d ca dy fa κ, lsB d ca L mc E.1, giB ca E.1 κ, P] : List va_W)) → va_S A s.heap H locs → ∀ ls : Array Slot, lv_has ls 3 [] → W p l e R s m args below meth c H locs kc ks Q (F0 m 86 ls [])) →
      (tg = 1 → ∀ (H : Heap) (locs : List Loc), va_P D bqCl (List.flatten ([bbB d ba ca na ta ka ia β', stB d na σ, stB d ta τ', bkB d ka na μ, viB d ca ν', coB d ca dy fa κ, lsB d ca L mc E.1, giB ca E.1 κ, P] : List va_W)) H → va_D A (List.flatten ([bbB d ba ca na ta ka ia β', stB d na σ, stB d ta τ', bkB d ka na μ, viB d ca ν', coB d ca dy fa κ, lsB d ca L mc E.1, giB ca E.1 κ, P] : List va_W)) → va_S A s.heap H locs → ∀ ls : Array Slot, lv_has ls 3 [] → W p l e R s m args below meth c H locs kc ks Q (F0 m 111 ls [])) →
      W p l e R s m args below meth c H locs kc ks Q (F0 m 2 ls []) := by
  have C0 := C
  obtain ⟨hx, hb, hown, hts, hml, hlocks, hA, hK, hm, hRf, hRl, hok⟩ := C
  have C := C0
  intro k
  induction k with
  | zero => intro x1 β τ ν tg β' τ' ν' H locs hf
            cases hf
  | succ k ih =>
    intro x1 β τ ν tg β' τ' ν' H locs hf hP hD hS ls hl hk0 hk1
    rw [bl_isSeen_L2] at hf
    refine lv_iload_n hx hb dX1_isSeen_2 rfl (lv_at hl 1 rfl) ?_
    refine lv_bipush (v := (20 : Int32)) hx hb dX1_isSeen_3 (by decide) ?_
    refine lv_icmp_gt (tgt := 111) hx hb dX1_isSeen_5 (by decide) (fun c1 => ?_) (fun c1 => ?_)
    · have hf := bq_ip c1 hf
      obtain ⟨rfl, rfl, rfl, rfl⟩ := bq_p4 hf
      exact hk1 rfl _ _ hP hD hS ls (lv_sub hl [] rfl)
    · have hf := bq_in c1 hf
      refine lv_iload_n hx hb dX1_isSeen_8 rfl (lv_at hl 1 rfl) ?_
      refine lv_iconst (v := (5 : Int32)) hx hb dX1_isSeen_9 (by decide) ?_
      refine lv_icmp_ne (tgt := 31) hx hb dX1_isSeen_10 (by decide) (fun c2 => ?_) (fun c2 => ?_)
      · have hf := bq_in c2 hf
        exact wk_bl_isSeen_J31 C hkc hks hamb hE hby hL _ _ _ _ _ _ _ _ _ _ _ _ _ _ (fun z0_ z1_ z2_ z3_ H locs hf hP hD hS ls hl => ih z0_ z1_ z2_ z3_ _ _ _ _ H locs hf hP hD hS ls hl hk0 hk1) hf hP hD hS ls (lv_sub hl [0, 1] rfl) hk0 hk1
      · have hf := bq_ip c2 hf
        refine lv_aload_n hx hb dX1_isSeen_13 rfl (lv_at hl 0 rfl) ?_
        refine gX1_get (own := RX1) (fs := (bbF ba ca na ta ka ia β)) (v := .ref (ta 0)) hx hb hts hown hK hP (q0 := 0) rfl 4 (Nat.le_of_ble_eq_true rfl) (hts _ q759) rfl dX1_isSeen_14 ?_
        refine gX6_getN (own := RX1) (host := "BlueBag") (fs := (stF ta τ)) (v := .ref (ta 1)) hx hb hts hown hK hP (q0 := 11) rfl 0 (Nat.le_of_ble_eq_true rfl) (bq_nF hamb hm 15 rfl) rfl dX1_isSeen_17 ?_
        refine lv_iconst (v := (0 : Int32)) hx hb dX1_isSeen_20 (by decide) ?_
        refine lv_aload_n hx hb dX1_isSeen_21 rfl (lv_at hl 0 rfl) ?_
        refine gX1_get (own := RX1) (fs := (bbF ba ca na ta ka ia β)) (v := .ref (ba 4)) hx hb hts hown hK hP (q0 := 0) rfl 11 (Nat.le_of_ble_eq_true rfl) (hts _ q766) rfl dX1_isSeen_22 ?_
        refine lv_iconst (v := (0 : Int32)) hx hb dX1_isSeen_25 (by decide) ?_
        refine lv_bipush (v := (30 : Int32)) hx hb dX1_isSeen_26 (by decide) ?_
        obtain ⟨β16, eβ16, hf⟩ := bq_lts hf
        refine bq_acopy (u := 30) (v := 0) (f := τ 1) (g := β 4) (ws' := (List.flatten ([bbB d ba ca na ta ka ia (va_up β 4 (va_cpy (τ 1) (β 4) 0 0 30)), stB d na σ, stB d ta τ, bkB d ka na μ, viB d ca ν, coB d ca dy fa κ, lsB d ca L mc E.1, giB ca E.1 κ, P] : List va_W))) hx hb (hml.trans hl.1.symm) hown (hts _ q989) (hts _ q302) (hts _ q301) (hts _ q129) hK hP hD hS 12 4 rfl rfl rfl (by decide) (by decide) (by decide) (by decide) (by decide) (by decide) (Nat.le_trans (Nat.le_of_ble_eq_true rfl) hRf) (Nat.le_trans (by decide +kernel) hRl) rfl dX1_isSeen_28 (fun H locs hP hD hS => ?_)
        rw [← eβ16] at hP hD
        exact wk_bl_isSeen_J31 C hkc hks hamb hE hby hL _ _ _ _ _ _ _ _ _ _ _ _ _ _ (fun z0_ z1_ z2_ z3_ H locs hf hP hD hS ls hl => ih z0_ z1_ z2_ z3_ _ _ _ _ H locs hf hP hD hS ls hl hk0 hk1) hf hP hD hS ls (lv_sub hl [0, 1] rfl) hk0 hk1
set_option maxHeartbeats 4000000 in
theorem met_bl_isSeen {l : Launch} {D : va_G} {am : bqAm} {X vE sE : Nat → Nat} {d : Nat → ClassId} {ba ca ia ka na ta : Nat → Nat} {dy fa : Option Nat} {L : Nat} {mc : Int32} {P : va_W} {F : Nat} {E : bqE} {β : bqS} {σ : bqS} {τ : bqS} {μ : bqS} {ν : bqS} {κ : bqS} {β' : bqS} {τ' : bqS} {ν' : bqS} {r : Int32} (hok : bq_Ok am) (hamb : bq_Amb am X vE sE) (hE : bq_E P vE dy fa E) (hby : bq_By l D am d ca vE P 400) (hL : E.1 ≤ L ∧ L < 2147483648) (hf : bl_isSeen F E β σ τ μ ν κ = some (r, β', τ', ν')) : bq_M l yX1_isSeen cX1_isSeen 3 (some .boolean) 804 24130 D bqCl (bqTy d) am [.ref (ba 0)] (List.flatten ([bbB d ba ca na ta ka ia β, stB d na σ, stB d ta τ, bkB d ka na μ, viB d ca ν, coB d ca dy fa κ, lsB d ca L mc E.1, giB ca E.1 κ, P] : List va_W)) (some (.int r)) (List.flatten ([bbB d ba ca na ta ka ia β', stB d na σ, stB d ta τ', bkB d ka na μ, viB d ca ν', coB d ca dy fa κ, lsB d ca L mc E.1, giB ca E.1 κ, P] : List va_W)) := by
  unfold bl_isSeen at hf
  refine bq_of hok (by decide +kernel) (Nat.le_of_ble_eq_true rfl) ?_
  intro p e s m below meth c A ls C hr hP hD hS hl
  have C0 := C
  obtain ⟨hx, hb, hown, hts, hml, hlocks, hA, hK, hm, hRf, hRl, hok⟩ := C
  have C := C0
  have hkc := Nat.zero_le 0
  have hks := Nat.zero_le 0
  have hl : lv_has ls 3 [(0, .ref (ba 0))] := hl
  refine lv_iconst (v := (0 : Int32)) hx hb dX1_isSeen_0 (by decide) ?_
  refine lv_istore_n (lv' := [(1, .int (0 : Int32)), (0, .ref (ba 0))]) hx hb dX1_isSeen_1 rfl hl (by decide) rfl (fun ls hl => ?_)
  obtain ⟨t17, β18, τ19, ν20, hg, hf⟩ := bq_b4s hf
  refine wk_bl_isSeen_L2 C hkc hks hamb hE hby hL _ _ _ _ _ _ _ _ _ _ _ hg hP hD hS ls (lv_sub hl [1, 0] rfl) ?_ ?_
  · intro ht_
    intro H locs hP hD hS ls hl
    have hf := bq_ip ht_ hf
    refine lv_iconst (v := (0 : Int32)) hx hb dX1_isSeen_86 (by decide) ?_
    obtain ⟨rfl, rfl, rfl, rfl⟩ := bq_p4 hf
    exact bq_zret C hr (by decide) hP hD hS dX1_isSeen_87
  · intro ht_
    intro H locs hP hD hS ls hl
    have hf := bq_in (by rw [ht_]; decide) hf
    refine lv_iconst (v := (1 : Int32)) hx hb dX1_isSeen_111 (by decide) ?_
    obtain ⟨rfl, rfl, rfl, rfl⟩ := bq_p4 hf
    exact bq_zret C hr (by decide) hP hD hS dX1_isSeen_112
set_option maxHeartbeats 4000000 in
theorem met_bl_isGuess {l : Launch} {D : va_G} {am : bqAm} {X vE sE : Nat → Nat} {d : Nat → ClassId} {ba ca ia ka na ta : Nat → Nat} {dy fa : Option Nat} {L : Nat} {mc : Int32} {P : va_W} {F : Nat} {E : bqE} {β : bqS} {σ : bqS} {τ : bqS} {ν : bqS} {κ : bqS} {τ' : bqS} {ν' : bqS} {r : Int32} {x1 : Int32} (hok : bq_Ok am) (hamb : bq_Amb am X vE sE) (hE : bq_E P vE dy fa E) (hby : bq_By l D am d ca vE P 400) (hL : E.1 ≤ L ∧ L < 2147483648) (hf : bl_isGuess F E β σ τ ν κ x1 = some (r, τ', ν')) : bq_M l yX1_isGuess cX1_isGuess 3 (some .boolean) 805 24152 D bqCl (bqTy d) am [.ref (ba 0), .int x1] (List.flatten ([bbB d ba ca na ta ka ia β, stB d na σ, stB d ta τ, viB d ca ν, coB d ca dy fa κ, lsB d ca L mc E.1, giB ca E.1 κ, P] : List va_W)) (some (.int r)) (List.flatten ([bbB d ba ca na ta ka ia β, stB d na σ, stB d ta τ', viB d ca ν', coB d ca dy fa κ, lsB d ca L mc E.1, giB ca E.1 κ, P] : List va_W)) := by
  unfold bl_isGuess at hf
  refine bq_of hok (by decide +kernel) (Nat.le_of_ble_eq_true rfl) ?_
  intro p e s m below meth c A ls C hr hP hD hS hl
  have C0 := C
  obtain ⟨hx, hb, hown, hts, hml, hlocks, hA, hK, hm, hRf, hRl, hok⟩ := C
  have C := C0
  have hkc := Nat.zero_le 0
  have hks := Nat.zero_le 0
  have hl : lv_has ls 3 [(0, .ref (ba 0)), (1, .int x1)] := hl
  refine lv_iload_n hx hb dX1_isGuess_0 rfl (lv_at hl 1 rfl) ?_
  refine lv_bipush (v := (10 : Int32)) hx hb dX1_isGuess_1 (by decide) ?_
  refine lv_idiv hx hb dX1_isGuess_3 (by decide) ?_
  obtain ⟨v1, ev1, hf⟩ := bq_lts hf
  refine bq_tope ev1 ?_
  refine lv_istore_n (lv' := [(2, .int v1), (0, .ref (ba 0)), (1, .int x1)]) hx hb dX1_isGuess_4 rfl hl (by decide) rfl (fun ls hl => ?_)
  refine lv_aload_n hx hb dX1_isGuess_5 rfl (lv_at hl 1 rfl) ?_
  refine gX1_get (own := RX1) (fs := (bbF ba ca na ta ka ia β)) (v := .ref (na 0)) hx hb hts hown hK hP (q0 := 0) rfl 3 (Nat.le_of_ble_eq_true rfl) (hts _ q758) rfl dX1_isGuess_6 ?_
  refine gX6_getN (own := RX1) (host := "BlueBag") (fs := (stF na σ)) (v := .ref (na 3)) hx hb hts hown hK hP (q0 := 6) rfl 2 (Nat.le_of_ble_eq_true rfl) (bq_nF hamb hm 23 rfl) rfl dX1_isGuess_9 ?_
  refine lv_iload_n hx hb dX1_isGuess_12 rfl (lv_at hl 0 rfl) ?_
  obtain ⟨h2, hf⟩ := bq_cks hf
  refine bq_ild (j := v1.toNatClampNeg) (f := σ 3) (q := 0) hx hb hK hP 9 rfl rfl h2 rfl dX1_isGuess_13 ?_
  refine lv_iload_n hx hb dX1_isGuess_14 rfl (lv_at hl 2 rfl) ?_
  refine lv_bipush (v := (10 : Int32)) hx hb dX1_isGuess_15 (by decide) ?_
  refine lv_irem hx hb dX1_isGuess_17 (by decide) ?_
  refine lv_icmp_ne (tgt := 23) hx hb dX1_isGuess_18 (by decide) (fun c3 => ?_) (fun c3 => ?_)
  · have hf := bq_in c3 hf
    refine lv_aload_n hx hb dX1_isGuess_23 rfl (lv_at hl 1 rfl) ?_
    refine lv_iconst (v := (0 : Int32)) hx hb dX1_isGuess_24 (by decide) ?_
    obtain ⟨τ4, ν5, hg, hf⟩ := bq_b2s hf
    refine bq_cV (bs := [bbB d ba ca na ta ka ia β, stB d na σ, stB d ta τ, viB d ca ν, coB d ca dy fa κ, lsB d ca L mc E.1, giB ca E.1 κ, P]) (bc := [bbB d ba ca na ta ka ia β, stB d na σ, stB d ta τ, viB d ca ν, coB d ca dy fa κ, lsB d ca L mc E.1, giB ca E.1 κ, P]) (br := []) (bc' := [bbB d ba ca na ta ka ia β, stB d na σ, stB d ta τ4, viB d ca ν5, coB d ca dy fa κ, lsB d ca L mc E.1, giB ca E.1 κ, P]) (bs' := [bbB d ba ca na ta ka ia β, stB d na σ, stB d ta τ4, viB d ca ν5, coB d ca dy fa κ, lsB d ca L mc E.1, giB ca E.1 κ, P]) (As := [.int (0 : Int32)]) (rest := []) (o := none) C hkc hks (met_bl_tries hok hamb hE hby hL hg) (bq_pm [0, 1, 2, 3, 4, 5, 6, 7] rfl rfl rfl) (bq_pm [0, 1, 2, 3, 4, 5, 6, 7] rfl rfl rfl) (lw_V q959 q961 qs10 q113 q962) (hd_X1_tries) (Nat.le_of_ble_eq_true rfl) (Nat.le_of_ble_eq_true rfl) (va_recv hK hP (ci := 1) (q0 := 0) rfl rfl) rfl hl.1 rfl (Nat.le_of_ble_eq_true rfl) dX1_isGuess_25 hP hD hS (fun H locs hP hD hS => ?_)
    refine lv_aload_n hx hb dX1_isGuess_28 rfl (lv_at hl 1 rfl) ?_
    refine gX1_get (own := RX1) (fs := (bbF ba ca na ta ka ia β)) (v := .ref (ta 0)) hx hb hts hown hK hP (q0 := 0) rfl 4 (Nat.le_of_ble_eq_true rfl) (hts _ q759) rfl dX1_isGuess_29 ?_
    refine gX6_getN (own := RX1) (host := "BlueBag") (fs := (stF ta τ4)) (v := .ref (ta 3)) hx hb hts hown hK hP (q0 := 11) rfl 2 (Nat.le_of_ble_eq_true rfl) (bq_nF hamb hm 23 rfl) rfl dX1_isGuess_32 ?_
    refine lv_iload_n hx hb dX1_isGuess_35 rfl (lv_at hl 0 rfl) ?_
    refine lv_iload_n hx hb dX1_isGuess_36 rfl (lv_at hl 2 rfl) ?_
    refine lv_bipush (v := (10 : Int32)) hx hb dX1_isGuess_37 (by decide) ?_
    refine lv_irem hx hb dX1_isGuess_39 (by decide) ?_
    obtain ⟨h6, hf⟩ := bq_cks hf
    obtain ⟨τ7, eτ7, hf⟩ := bq_lts hf
    refine bq_ist (j := v1.toNatClampNeg) (f := τ4 3) (ws' := (List.flatten ([bbB d ba ca na ta ka ia β, stB d na σ, stB d ta (bq_up τ4 3 v1.toNatClampNeg (x1 - x1 / (10 : Int32) * (10 : Int32))), viB d ca ν5, coB d ca dy fa κ, lsB d ca L mc E.1, giB ca E.1 κ, P] : List va_W))) hx hb hK hP hD hS 14 rfl rfl h6 rfl rfl dX1_isGuess_40 (fun H locs hP hD hS => ?_)
    rw [← eτ7] at hP hD
    refine lv_iconst (v := (1 : Int32)) hx hb dX1_isGuess_41 (by decide) ?_
    obtain ⟨rfl, rfl, rfl⟩ := bq_p3 hf
    exact bq_zret C hr (by decide) hP hD hS dX1_isGuess_42
  · have hf := bq_ip c3 hf
    refine lv_iconst (v := (0 : Int32)) hx hb dX1_isGuess_21 (by decide) ?_
    obtain ⟨rfl, rfl, rfl⟩ := bq_p3 hf
    exact bq_zret C hr (by decide) hP hD hS dX1_isGuess_22
set_option maxHeartbeats 4000000 in
theorem met_bl_guesses {l : Launch} {D : va_G} {am : bqAm} {X vE sE : Nat → Nat} {d : Nat → ClassId} {ba ca ia ka na ta : Nat → Nat} {dy fa : Option Nat} {L : Nat} {mc : Int32} {E : bqE} {β : bqS} {κ : bqS} {r : Int32} (hok : bq_Ok am) (hamb : bq_Amb am X vE sE) (hL : E.1 ≤ L ∧ L < 2147483648) (hf : bl_guesses E β κ = some r) : bq_M l yX1_guesses cX1_guesses 1 (some .int) 2 80 D bqCl (bqTy d) am [.ref (ba 0)] (List.flatten ([bbB d ba ca na ta ka ia β, coB d ca dy fa κ, lsB d ca L mc E.1] : List va_W)) (some (.int r)) (List.flatten ([bbB d ba ca na ta ka ia β, coB d ca dy fa κ, lsB d ca L mc E.1] : List va_W)) := by
  unfold bl_guesses at hf
  refine bq_of hok (by decide +kernel) (Nat.le_of_ble_eq_true rfl) ?_
  intro p e s m below meth c A ls C hr hP hD hS hl
  have C0 := C
  obtain ⟨hx, hb, hown, hts, hml, hlocks, hA, hK, hm, hRf, hRl, hok⟩ := C
  have C := C0
  have hkc := Nat.zero_le 0
  have hks := Nat.zero_le 0
  have hl : lv_has ls 1 [(0, .ref (ba 0))] := hl
  refine lv_aload_n hx hb dX1_guesses_0 rfl (lv_at hl 0 rfl) ?_
  obtain ⟨v1, hg, hf⟩ := bq_b1s hf
  refine bq_cV (bs := [bbB d ba ca na ta ka ia β, coB d ca dy fa κ, lsB d ca L mc E.1]) (bc := [bbB d ba ca na ta ka ia β, coB d ca dy fa κ, lsB d ca L mc E.1]) (br := []) (bc' := [bbB d ba ca na ta ka ia β, coB d ca dy fa κ, lsB d ca L mc E.1]) (bs' := [bbB d ba ca na ta ka ia β, coB d ca dy fa κ, lsB d ca L mc E.1]) (As := []) (rest := []) (o := (some (.int v1))) C hkc hks (met_bl_girls hok hamb hL hg) (bq_pm [0, 1, 2] rfl rfl rfl) (bq_pm [0, 1, 2] rfl rfl rfl) (lw_V q979 q981 qs12 q113 q982) (hd_X1_girls) (Nat.le_of_ble_eq_true rfl) (Nat.le_of_ble_eq_true rfl) (va_recv hK hP (ci := 1) (q0 := 0) rfl rfl) rfl hl.1 rfl (Nat.le_of_ble_eq_true rfl) dX1_guesses_1 hP hD hS (fun H locs hP hD hS => ?_)
  refine lv_bipush (v := (10 : Int32)) hx hb dX1_guesses_4 (by decide) ?_
  refine lv_imul hx hb dX1_guesses_6 ?_
  obtain rfl := Option.some.inj hf
  exact bq_iret C hr hP hD hS dX1_guesses_7
set_option maxHeartbeats 4000000 in
theorem wk_bl_skilled_L39 {p : Program} {e : Env} {R : Room} {s : State} {m : MethodId} {args : Array Value} {below : List Frame} {meth : Method} {c : Code} {A : Nat → Prop} {kc ks : Nat} {Q : State → Prop} {l : Launch} {D : va_G} {am : bqAm} {X vE sE : Nat → Nat} {d : Nat → ClassId} {ba ca ia ka na ta : Nat → Nat} {dy fa : Option Nat} {L : Nat} {mc : Int32} {P : va_W} {F : Nat} {E : bqE} (C : bq_C p R s m args meth c A D bqCl (bqTy d) am cX1_skilled 5 RX1 806 24174) (hkc : kc ≤ R.cells) (hks : ks ≤ R.slots) (hamb : bq_Amb am X vE sE) (hst : l.stackTraces = false) (hE : bq_E P vE dy fa E) (hby : bq_By l D am d ca vE P 400) (hL : E.1 ≤ L ∧ L < 2147483648) {σ : bqS} {μ : bqS} {κ : bqS} {x1 : Int32} :
    ∀ (k : Nat) (x2 : Int32) (x3 : Int32) (x4 : Int32) (β : bqS) (τ : bqS) (ν : bqS) (y2 : Int32) (y3 : Int32) (β' : bqS) (τ' : bqS) (ν' : bqS) (H : Heap) (locs : List Loc), bl_skilled_L39 F E σ μ κ k x2 x3 x4 β τ ν = some (y2, y3, β', τ', ν') → va_P D bqCl (List.flatten ([bbB d ba ca na ta ka ia β, stB d na σ, stB d ta τ, bkB d ka na μ, viB d ca ν, coB d ca dy fa κ, lsB d ca L mc E.1, giB ca E.1 κ, P] : List va_W)) H → va_D A (List.flatten ([bbB d ba ca na ta ka ia β, stB d na σ, stB d ta τ, bkB d ka na μ, viB d ca ν, coB d ca dy fa κ, lsB d ca L mc E.1, giB ca E.1 κ, P] : List va_W)) → va_S A s.heap H locs → ∀ ls : Array Slot, lv_has ls 5 [(0, .ref (ba 0)), (1, .int x1), (2, .int x2), (3, .int x3), (4, .int x4)] →
      (∀ (H : Heap) (locs : List Loc), va_P D bqCl (List.flatten ([bbB d ba ca na ta ka ia β', stB d na σ, stB d ta τ', bkB d ka na μ, viB d ca ν', coB d ca dy fa κ, lsB d ca L mc E.1, giB ca E.1 κ, P] : List va_W)) H → va_D A (List.flatten ([bbB d ba ca na ta ka ia β', stB d na σ, stB d ta τ', bkB d ka na μ, viB d ca ν', coB d ca dy fa κ, lsB d ca L mc E.1, giB ca E.1 κ, P] : List va_W)) → va_S A s.heap H locs → ∀ ls : Array Slot, lv_has ls 5 [(1, .int x1), (2, .int y2), (3, .int y3)] → W p l e R s m args below meth c H locs kc ks Q (F0 m 84 ls [])) →
      W p l e R s m args below meth c H locs kc ks Q (F0 m 39 ls []) := by
  have C0 := C
  obtain ⟨hx, hb, hown, hts, hml, hlocks, hA, hK, hm, hRf, hRl, hok⟩ := C
  have C := C0
  intro k
  induction k with
  | zero => intro x2 x3 x4 β τ ν y2 y3 β' τ' ν' H locs hf
            cases hf
  | succ k ih =>
    intro x2 x3 x4 β τ ν y2 y3 β' τ' ν' H locs hf hP hD hS ls hl hk0
    rw [bl_skilled_L39] at hf
    refine lv_iload hx hb dX1_skilled_39 (lv_at hl 4 rfl) ?_
    refine lv_aload_n hx hb dX1_skilled_41 rfl (lv_at hl 0 rfl) ?_
    obtain ⟨v4, hg, hf⟩ := bq_b1s hf
    refine bq_cV (bs := [bbB d ba ca na ta ka ia β, stB d na σ, stB d ta τ, bkB d ka na μ, viB d ca ν, coB d ca dy fa κ, lsB d ca L mc E.1, giB ca E.1 κ, P]) (bc := [bbB d ba ca na ta ka ia β, coB d ca dy fa κ, lsB d ca L mc E.1]) (br := [stB d na σ, stB d ta τ, bkB d ka na μ, viB d ca ν, giB ca E.1 κ, P]) (bc' := [bbB d ba ca na ta ka ia β, coB d ca dy fa κ, lsB d ca L mc E.1]) (bs' := [bbB d ba ca na ta ka ia β, stB d na σ, stB d ta τ, bkB d ka na μ, viB d ca ν, coB d ca dy fa κ, lsB d ca L mc E.1, giB ca E.1 κ, P]) (As := []) (rest := [.int x4]) (o := (some (.int v4))) C hkc hks (met_bl_guesses hok hamb hL hg) (bq_pm [0, 5, 6, 1, 2, 3, 4, 7, 8] rfl rfl rfl) (bq_pm [0, 3, 4, 5, 6, 1, 2, 7, 8] rfl rfl rfl) (lw_V q1624 q1626 qs43 q113 q1627) (hd_X1_guesses) (Nat.le_of_ble_eq_true rfl) (Nat.le_of_ble_eq_true rfl) (va_recv hK hP (ci := 1) (q0 := 0) rfl rfl) rfl hl.1 rfl (Nat.le_of_ble_eq_true rfl) dX1_skilled_42 hP hD hS (fun H locs hP hD hS => ?_)
    refine lv_icmp_ge (tgt := 84) hx hb dX1_skilled_45 (by decide) (fun c5 => ?_) (fun c5 => ?_)
    · have hf := bq_ip c5 hf
      obtain ⟨rfl, rfl, rfl, rfl, rfl⟩ := bq_p5 hf
      exact hk0 _ _ hP hD hS ls (lv_sub hl [1, 2, 3] rfl)
    · have hf := bq_in c5 hf
      refine lv_aload_n hx hb dX1_skilled_48 rfl (lv_at hl 0 rfl) ?_
      refine lv_iload hx hb dX1_skilled_49 (lv_at hl 4 rfl) ?_
      obtain ⟨v6, τ7, ν8, hg, hf⟩ := bq_b3s hf
      refine bq_cV (bs := [bbB d ba ca na ta ka ia β, stB d na σ, stB d ta τ, bkB d ka na μ, viB d ca ν, coB d ca dy fa κ, lsB d ca L mc E.1, giB ca E.1 κ, P]) (bc := [bbB d ba ca na ta ka ia β, stB d na σ, stB d ta τ, viB d ca ν, coB d ca dy fa κ, lsB d ca L mc E.1, giB ca E.1 κ, P]) (br := [bkB d ka na μ]) (bc' := [bbB d ba ca na ta ka ia β, stB d na σ, stB d ta τ7, viB d ca ν8, coB d ca dy fa κ, lsB d ca L mc E.1, giB ca E.1 κ, P]) (bs' := [bbB d ba ca na ta ka ia β, stB d na σ, stB d ta τ7, bkB d ka na μ, viB d ca ν8, coB d ca dy fa κ, lsB d ca L mc E.1, giB ca E.1 κ, P]) (As := [.int x4]) (rest := []) (o := (some (.int v6))) C hkc hks (met_bl_isGuess hok hamb hE hby hL hg) (bq_pm [0, 1, 2, 4, 5, 6, 7, 8, 3] rfl rfl rfl) (bq_pm [0, 1, 2, 8, 3, 4, 5, 6, 7] rfl rfl rfl) (lw_V q1628 q1630 qs44 q113 q1631) (hd_X1_isGuess) (Nat.le_of_ble_eq_true rfl) (Nat.le_of_ble_eq_true rfl) (va_recv hK hP (ci := 1) (q0 := 0) rfl rfl) rfl hl.1 rfl (Nat.le_of_ble_eq_true rfl) dX1_skilled_51 hP hD hS (fun H locs hP hD hS => ?_)
      refine lv_if_eq (tgt := 78) hx hb dX1_skilled_54 (by decide) (fun c9 => ?_) (fun c9 => ?_)
      · have hf := bq_ip c9 hf
        obtain ⟨v10, ev10, hf⟩ := bq_lts hf
        refine lv_iinc (v := v10) (lv' := [(4, .int v10), (0, .ref (ba 0)), (1, .int x1), (2, .int x2), (3, .int x3)]) hx hb dX1_skilled_78 hl (k := 4) rfl (bq_inc (by decide) ev10) (by decide) rfl (fun ls hl => ?_)
        refine lv_goto (tgt := 39) hx hb dX1_skilled_81 (by decide) ?_
        exact ih _ _ _ _ _ _ _ _ _ _ _ _ _ hf hP hD hS ls (lv_sub hl [1, 2, 3, 4, 0] rfl) hk0
      · have hf := bq_in c9 hf
        refine lv_aload_n hx hb dX1_skilled_57 rfl (lv_at hl 0 rfl) ?_
        obtain ⟨v11, β12, τ13, ν14, hg, hf⟩ := bq_b4s hf
        refine bq_cV (bs := [bbB d ba ca na ta ka ia β, stB d na σ, stB d ta τ7, bkB d ka na μ, viB d ca ν8, coB d ca dy fa κ, lsB d ca L mc E.1, giB ca E.1 κ, P]) (bc := [bbB d ba ca na ta ka ia β, stB d na σ, stB d ta τ7, bkB d ka na μ, viB d ca ν8, coB d ca dy fa κ, lsB d ca L mc E.1, giB ca E.1 κ, P]) (br := []) (bc' := [bbB d ba ca na ta ka ia β12, stB d na σ, stB d ta τ13, bkB d ka na μ, viB d ca ν14, coB d ca dy fa κ, lsB d ca L mc E.1, giB ca E.1 κ, P]) (bs' := [bbB d ba ca na ta ka ia β12, stB d na σ, stB d ta τ13, bkB d ka na μ, viB d ca ν14, coB d ca dy fa κ, lsB d ca L mc E.1, giB ca E.1 κ, P]) (As := []) (rest := []) (o := (some (.int v11))) C hkc hks (met_bl_isSeen hok hamb hE hby hL hg) (bq_pm [0, 1, 2, 3, 4, 5, 6, 7, 8] rfl rfl rfl) (bq_pm [0, 1, 2, 3, 4, 5, 6, 7, 8] rfl rfl rfl) (lw_V q1620 q1622 qs42 q113 q1623) (hd_X1_isSeen) (Nat.le_of_ble_eq_true rfl) (Nat.le_of_ble_eq_true rfl) (va_recv hK hP (ci := 1) (q0 := 0) rfl rfl) rfl hl.1 rfl (Nat.le_of_ble_eq_true rfl) dX1_skilled_58 hP hD hS (fun H locs hP hD hS => ?_)
        refine lv_if_ne (tgt := 67) hx hb dX1_skilled_61 (by decide) (fun c15 => ?_) (fun c15 => ?_)
        · have hf := bq_in c15 hf
          obtain ⟨v16, ev16, hf⟩ := bq_lts hf
          refine lv_iinc (v := v16) (lv' := [(2, .int v16), (0, .ref (ba 0)), (1, .int x1), (3, .int x3), (4, .int x4)]) hx hb dX1_skilled_67 hl (k := 2) rfl (bq_inc (by decide) ev16) (by decide) rfl (fun ls hl => ?_)
          refine lv_iload_n hx hb dX1_skilled_70 rfl (lv_at hl 3 rfl) ?_
          refine lv_iconst (v := (-1 : Int32)) hx hb dX1_skilled_71 (by decide) ?_
          refine lv_icmp_ne (tgt := 78) hx hb dX1_skilled_72 (by decide) (fun c17 => ?_) (fun c17 => ?_)
          · have hf := bq_in c17 hf
            obtain ⟨v18, ev18, hf⟩ := bq_lts hf
            refine lv_iinc (v := v18) (lv' := [(4, .int v18), (2, .int v16), (0, .ref (ba 0)), (1, .int x1), (3, .int x3)]) hx hb dX1_skilled_78 hl (k := 4) rfl (bq_inc (by decide) ev18) (by decide) rfl (fun ls hl => ?_)
            refine lv_goto (tgt := 39) hx hb dX1_skilled_81 (by decide) ?_
            exact ih _ _ _ _ _ _ _ _ _ _ _ _ _ hf hP hD hS ls (lv_sub hl [2, 3, 1, 4, 0] rfl) hk0
          · have hf := bq_ip c17 hf
            refine lv_iload hx hb dX1_skilled_75 (lv_at hl 4 rfl) ?_
            refine lv_istore_n (lv' := [(3, .int x4), (2, .int v16), (0, .ref (ba 0)), (1, .int x1), (4, .int x4)]) hx hb dX1_skilled_77 rfl hl (by decide) rfl (fun ls hl => ?_)
            obtain ⟨v19, ev19, hf⟩ := bq_lts hf
            refine lv_iinc (v := v19) (lv' := [(4, .int v19), (3, .int x4), (2, .int v16), (0, .ref (ba 0)), (1, .int x1)]) hx hb dX1_skilled_78 hl (k := 4) rfl (bq_inc (by decide) ev19) (by decide) rfl (fun ls hl => ?_)
            refine lv_goto (tgt := 39) hx hb dX1_skilled_81 (by decide) ?_
            exact ih _ _ _ _ _ _ _ _ _ _ _ _ _ hf hP hD hS ls (lv_sub hl [3, 4, 2, 1, 0] rfl) hk0
        · have hf := bq_ip c15 hf
          refine lv_goto (tgt := 78) hx hb dX1_skilled_64 (by decide) ?_
          obtain ⟨v20, ev20, hf⟩ := bq_lts hf
          refine lv_iinc (v := v20) (lv' := [(4, .int v20), (0, .ref (ba 0)), (1, .int x1), (2, .int x2), (3, .int x3)]) hx hb dX1_skilled_78 hl (k := 4) rfl (bq_inc (by decide) ev20) (by decide) rfl (fun ls hl => ?_)
          refine lv_goto (tgt := 39) hx hb dX1_skilled_81 (by decide) ?_
          exact ih _ _ _ _ _ _ _ _ _ _ _ _ _ hf hP hD hS ls (lv_sub hl [1, 2, 3, 4, 0] rfl) hk0
set_option maxHeartbeats 4000000 in
theorem met_bl_skilled {l : Launch} {D : va_G} {am : bqAm} {X vE sE : Nat → Nat} {d : Nat → ClassId} {ba ca ia ka na ta : Nat → Nat} {dy fa : Option Nat} {L : Nat} {mc : Int32} {P : va_W} {F : Nat} {E : bqE} {β : bqS} {σ : bqS} {τ : bqS} {μ : bqS} {ν : bqS} {κ : bqS} {β' : bqS} {τ' : bqS} {ν' : bqS} {r : Int32} {tg : Nat} {x1 : Int32} (hok : bq_Ok am) (hamb : bq_Amb am X vE sE) (hst : l.stackTraces = false) (hE : bq_E P vE dy fa E) (hby : bq_By l D am d ca vE P 400) (hL : E.1 ≤ L ∧ L < 2147483648) (hf : bl_skilled F E β σ τ μ ν κ x1 = some (tg, r, β', τ', ν')) : bq_X l yX1_skilled cX1_skilled 5 (some .int) 806 24174 1 6 D bqCl (bqTy d) am [.ref (ba 0), .int x1] (List.flatten ([bbB d ba ca na ta ka ia β, stB d na σ, stB d ta τ, bkB d ka na μ, viB d ca ν, coB d ca dy fa κ, lsB d ca L mc E.1, giB ca E.1 κ, P] : List va_W)) tg (some (.int r)) (List.flatten ([bbB d ba ca na ta ka ia β', stB d na σ, stB d ta τ', bkB d ka na μ, viB d ca ν', coB d ca dy fa κ, lsB d ca L mc E.1, giB ca E.1 κ, P] : List va_W)) := by
  unfold bl_skilled at hf
  refine bq_ofX hok (by decide +kernel) (Nat.le_of_ble_eq_true rfl) ?_
  intro p e s m below meth c A ls C hr hex hP hD hS hl
  have C0 := C
  obtain ⟨hx, hb, hown, hts, hml, hlocks, hA, hK, hm, hRf, hRl, hok⟩ := C
  have C := C0
  have hkc := Nat.zero_le 1
  have hks := Nat.zero_le 6
  have hl : lv_has ls 5 [(0, .ref (ba 0)), (1, .int x1)] := hl
  refine lv_iload_n hx hb dX1_skilled_0 rfl (lv_at hl 1 rfl) ?_
  refine lv_iconst (v := (0 : Int32)) hx hb dX1_skilled_1 (by decide) ?_
  refine lv_iconst (v := (2 : Int32)) hx hb dX1_skilled_2 (by decide) ?_
  obtain ⟨v1, hg, hf⟩ := bq_b1s hf
  refine bq_cS (bs := [bbB d ba ca na ta ka ia β, stB d na σ, stB d ta τ, bkB d ka na μ, viB d ca ν, coB d ca dy fa κ, lsB d ca L mc E.1, giB ca E.1 κ, P]) (bc := []) (br := [bbB d ba ca na ta ka ia β, stB d na σ, stB d ta τ, bkB d ka na μ, viB d ca ν, coB d ca dy fa κ, lsB d ca L mc E.1, giB ca E.1 κ, P]) (bc' := []) (bs' := [bbB d ba ca na ta ka ia β, stB d na σ, stB d ta τ, bkB d ka na μ, viB d ca ν, coB d ca dy fa κ, lsB d ca L mc E.1, giB ca E.1 κ, P]) (As := [.int x1, .int (0 : Int32), .int (2 : Int32)]) (rest := []) (o := (some (.int v1))) C hkc hks (met_bl_within hok hg) (bq_pm [0, 1, 2, 3, 4, 5, 6, 7, 8] rfl rfl rfl) (bq_pm [0, 1, 2, 3, 4, 5, 6, 7, 8] rfl rfl rfl) (lw_S q814 q815 q113 q816) (hd_X1_within) (Nat.le_of_ble_eq_true rfl) (Nat.le_of_ble_eq_true rfl) rfl hl.1 rfl (Nat.le_of_ble_eq_true rfl) dX1_skilled_3 hP hD hS (fun H locs hP hD hS => ?_)
  obtain ⟨t2, hg, hf⟩ := bq_b1s hf
  refine bq_cSX (bs := [bbB d ba ca na ta ka ia β, stB d na σ, stB d ta τ, bkB d ka na μ, viB d ca ν, coB d ca dy fa κ, lsB d ca L mc E.1, giB ca E.1 κ, P]) (bc := []) (br := [bbB d ba ca na ta ka ia β, stB d na σ, stB d ta τ, bkB d ka na μ, viB d ca ν, coB d ca dy fa κ, lsB d ca L mc E.1, giB ca E.1 κ, P]) (bc' := []) (bs' := [bbB d ba ca na ta ka ia β, stB d na σ, stB d ta τ, bkB d ka na μ, viB d ca ν, coB d ca dy fa κ, lsB d ca L mc E.1, giB ca E.1 κ, P]) (As := [.int v1]) (rest := []) (o := none) C (Nat.le_of_ble_eq_true rfl) (Nat.le_of_ble_eq_true rfl) (met_bl_there hok hamb hst hg) (bq_pm [0, 1, 2, 3, 4, 5, 6, 7, 8] rfl rfl rfl) (bq_pm [0, 1, 2, 3, 4, 5, 6, 7, 8] rfl rfl rfl) (lw_S q1394 q1395 q113 q1396) (hd_X1_there) (Nat.le_of_ble_eq_true rfl) (Nat.le_of_ble_eq_true rfl) rfl hl.1 rfl (Nat.le_of_ble_eq_true rfl) dX1_skilled_6 hP hD hS (fun ht_ H locs hP hD hS => ?_) (fun ht_ => ?_)
  · have hf := bq_ip ht_ hf
    have hkc : 1 ≤ 1 := by decide
    have hks : 6 ≤ 6 := by decide
    refine lv_iload_n hx hb dX1_skilled_9 rfl (lv_at hl 1 rfl) ?_
    refine lv_iconst (v := (2 : Int32)) hx hb dX1_skilled_10 (by decide) ?_
    refine lv_icmp_ne (tgt := 32) hx hb dX1_skilled_11 (by decide) (fun c3 => ?_) (fun c3 => ?_)
    · have hf := bq_in c3 hf
      refine lv_iconst (v := (0 : Int32)) hx hb dX1_skilled_32 (by decide) ?_
      refine lv_istore_n (lv' := [(2, .int (0 : Int32)), (0, .ref (ba 0)), (1, .int x1)]) hx hb dX1_skilled_33 rfl hl (by decide) rfl (fun ls hl => ?_)
      refine lv_iconst (v := (-1 : Int32)) hx hb dX1_skilled_34 (by decide) ?_
      refine lv_istore_n (lv' := [(3, .int (-1 : Int32)), (2, .int (0 : Int32)), (0, .ref (ba 0)), (1, .int x1)]) hx hb dX1_skilled_35 rfl hl (by decide) rfl (fun ls hl => ?_)
      refine lv_iconst (v := (0 : Int32)) hx hb dX1_skilled_36 (by decide) ?_
      refine lv_istore (lv' := [(4, .int (0 : Int32)), (3, .int (-1 : Int32)), (2, .int (0 : Int32)), (0, .ref (ba 0)), (1, .int x1)]) hx hb dX1_skilled_37 hl (by decide) rfl (fun ls hl => ?_)
      obtain ⟨v21, v22, β23, τ24, ν25, hg, hf⟩ := bq_b5s hf
      refine wk_bl_skilled_L39 C hkc hks hamb hst hE hby hL _ _ _ _ _ _ _ _ _ _ _ _ _ _ hg hP hD hS ls (lv_sub hl [3, 4, 2, 1, 0] rfl) ?_
      · intro H locs hP hD hS ls hl
        refine lv_iload_n hx hb dX1_skilled_84 rfl (lv_at hl 0 rfl) ?_
        refine lv_if_ne (tgt := 92) hx hb dX1_skilled_85 (by decide) (fun c26 => ?_) (fun c26 => ?_)
        · have hf := bq_in c26 hf
          refine lv_iload_n hx hb dX1_skilled_92 rfl (lv_at hl 2 rfl) ?_
          obtain ⟨rfl, rfl, rfl, rfl, rfl⟩ := bq_p5 hf
          exact bq_iretX C hr (by decide) (by decide) hP hD hS dX1_skilled_93
        · have hf := bq_ip c26 hf
          refine lv_iload_n hx hb dX1_skilled_88 rfl (lv_at hl 1 rfl) ?_
          refine lv_goto (tgt := 93) hx hb dX1_skilled_89 (by decide) ?_
          obtain ⟨rfl, rfl, rfl, rfl, rfl⟩ := bq_p5 hf
          exact bq_iretX C hr (by decide) (by decide) hP hD hS dX1_skilled_93
    · have hf := bq_ip c3 hf
      refine lv_aload_n hx hb dX1_skilled_14 rfl (lv_at hl 0 rfl) ?_
      refine lv_iconst (v := (0 : Int32)) hx hb dX1_skilled_15 (by decide) ?_
      obtain ⟨τ27, ν28, hg, hf⟩ := bq_b2s hf
      refine bq_cV (bs := [bbB d ba ca na ta ka ia β, stB d na σ, stB d ta τ, bkB d ka na μ, viB d ca ν, coB d ca dy fa κ, lsB d ca L mc E.1, giB ca E.1 κ, P]) (bc := [bbB d ba ca na ta ka ia β, stB d na σ, stB d ta τ, viB d ca ν, coB d ca dy fa κ, lsB d ca L mc E.1, giB ca E.1 κ, P]) (br := [bkB d ka na μ]) (bc' := [bbB d ba ca na ta ka ia β, stB d na σ, stB d ta τ27, viB d ca ν28, coB d ca dy fa κ, lsB d ca L mc E.1, giB ca E.1 κ, P]) (bs' := [bbB d ba ca na ta ka ia β, stB d na σ, stB d ta τ27, bkB d ka na μ, viB d ca ν28, coB d ca dy fa κ, lsB d ca L mc E.1, giB ca E.1 κ, P]) (As := [.int (0 : Int32)]) (rest := []) (o := none) C hkc hks (met_bl_tries hok hamb hE hby hL hg) (bq_pm [0, 1, 2, 4, 5, 6, 7, 8, 3] rfl rfl rfl) (bq_pm [0, 1, 2, 8, 3, 4, 5, 6, 7] rfl rfl rfl) (lw_V q959 q961 qs10 q113 q962) (hd_X1_tries) (Nat.le_of_ble_eq_true rfl) (Nat.le_of_ble_eq_true rfl) (va_recv hK hP (ci := 1) (q0 := 0) rfl rfl) rfl hl.1 rfl (Nat.le_of_ble_eq_true rfl) dX1_skilled_16 hP hD hS (fun H locs hP hD hS => ?_)
      refine lv_aload_n hx hb dX1_skilled_19 rfl (lv_at hl 0 rfl) ?_
      obtain ⟨v29, β30, τ31, ν32, hg, hf⟩ := bq_b4s hf
      refine bq_cV (bs := [bbB d ba ca na ta ka ia β, stB d na σ, stB d ta τ27, bkB d ka na μ, viB d ca ν28, coB d ca dy fa κ, lsB d ca L mc E.1, giB ca E.1 κ, P]) (bc := [bbB d ba ca na ta ka ia β, stB d na σ, stB d ta τ27, bkB d ka na μ, viB d ca ν28, coB d ca dy fa κ, lsB d ca L mc E.1, giB ca E.1 κ, P]) (br := []) (bc' := [bbB d ba ca na ta ka ia β30, stB d na σ, stB d ta τ31, bkB d ka na μ, viB d ca ν32, coB d ca dy fa κ, lsB d ca L mc E.1, giB ca E.1 κ, P]) (bs' := [bbB d ba ca na ta ka ia β30, stB d na σ, stB d ta τ31, bkB d ka na μ, viB d ca ν32, coB d ca dy fa κ, lsB d ca L mc E.1, giB ca E.1 κ, P]) (As := []) (rest := []) (o := (some (.int v29))) C hkc hks (met_bl_isSeen hok hamb hE hby hL hg) (bq_pm [0, 1, 2, 3, 4, 5, 6, 7, 8] rfl rfl rfl) (bq_pm [0, 1, 2, 3, 4, 5, 6, 7, 8] rfl rfl rfl) (lw_V q1620 q1622 qs42 q113 q1623) (hd_X1_isSeen) (Nat.le_of_ble_eq_true rfl) (Nat.le_of_ble_eq_true rfl) (va_recv hK hP (ci := 1) (q0 := 0) rfl rfl) rfl hl.1 rfl (Nat.le_of_ble_eq_true rfl) dX1_skilled_20 hP hD hS (fun H locs hP hD hS => ?_)
      refine lv_if_eq (tgt := 30) hx hb dX1_skilled_23 (by decide) (fun c33 => ?_) (fun c33 => ?_)
      · have hf := bq_ip c33 hf
        refine lv_iconst (v := (0 : Int32)) hx hb dX1_skilled_30 (by decide) ?_
        obtain ⟨rfl, rfl, rfl, rfl, rfl⟩ := bq_p5 hf
        exact bq_iretX C hr (by decide) (by decide) hP hD hS dX1_skilled_31
      · have hf := bq_in c33 hf
        refine lv_iconst (v := (1 : Int32)) hx hb dX1_skilled_26 (by decide) ?_
        refine lv_goto (tgt := 31) hx hb dX1_skilled_27 (by decide) ?_
        obtain ⟨rfl, rfl, rfl, rfl, rfl⟩ := bq_p5 hf
        exact bq_iretX C hr (by decide) (by decide) hP hD hS dX1_skilled_31
  · have hf := bq_in ht_ hf
    obtain ⟨rfl, rfl, rfl, rfl, rfl⟩ := bq_p5 hf
    exact bq_prop C hex ht_ (by decide) (by decide)
set_option maxHeartbeats 4000000 in
theorem wk_bl_unlike_L14 {p : Program} {e : Env} {R : Room} {s : State} {m : MethodId} {args : Array Value} {below : List Frame} {meth : Method} {c : Code} {A : Nat → Prop} {kc ks : Nat} {Q : State → Prop} {l : Launch} {D : va_G} {am : bqAm} {X vE sE : Nat → Nat} {d : Nat → ClassId} {ba ca ia ka na ta : Nat → Nat} {F : Nat} (C : bq_C p R s m args meth c A D bqCl (bqTy d) am cX1_unlike 6 RX1 0 0) (hkc : kc ≤ R.cells) (hks : ks ≤ R.slots) (hamb : bq_Amb am X vE sE)  {β : bqS} {x2 : Int32} {x3 : Int32} :
    ∀ (k : Nat) (x1 : Int32) (x4 : Int32) (x5 : Int32) (y5 : Int32) (H : Heap) (locs : List Loc), bl_unlike_L14 F β k x1 x4 x5 = some y5 → va_P D bqCl (List.flatten ([bbB d ba ca na ta ka ia β] : List va_W)) H → va_D A (List.flatten ([bbB d ba ca na ta ka ia β] : List va_W)) → va_S A s.heap H locs → ∀ ls : Array Slot, lv_has ls 6 [(0, .ref (ba 0)), (1, .int x1), (2, .int x2), (3, .int x3), (4, .int x4), (5, .int x5)] →
      (∀ (H : Heap) (locs : List Loc), va_P D bqCl (List.flatten ([bbB d ba ca na ta ka ia β] : List va_W)) H → va_D A (List.flatten ([bbB d ba ca na ta ka ia β] : List va_W)) → va_S A s.heap H locs → ∀ ls : Array Slot, lv_has ls 6 [(0, .ref (ba 0)), (1, .int x1), (2, .int x2), (3, .int x3), (4, .int x4), (5, .int y5)] → W p l e R s m args below meth c H locs kc ks Q (F0 m 54 ls [])) →
      W p l e R s m args below meth c H locs kc ks Q (F0 m 14 ls []) := by
  have C0 := C
  obtain ⟨hx, hb, hown, hts, hml, hlocks, hA, hK, hm, hRf, hRl, hok⟩ := C
  have C := C0
  intro k
  induction k with
  | zero => intro x1 x4 x5 y5 H locs hf
            cases hf
  | succ k ih =>
    intro x1 x4 x5 y5 H locs hf hP hD hS ls hl hk0
    rw [bl_unlike_L14] at hf
    refine lv_iload hx hb dX1_unlike_14 (lv_at hl 5 rfl) ?_
    refine lv_iload hx hb dX1_unlike_16 (lv_at hl 4 rfl) ?_
    refine lv_icmp_ge (tgt := 54) hx hb dX1_unlike_18 (by decide) (fun c2 => ?_) (fun c2 => ?_)
    · have hf := bq_ip c2 hf
      obtain rfl := Option.some.inj hf
      exact hk0 _ _ hP hD hS ls (lv_sub hl [0, 1, 2, 3, 4, 5] rfl)
    · have hf := bq_in c2 hf
      refine lv_aload_n hx hb dX1_unlike_21 rfl (lv_at hl 0 rfl) ?_
      refine gX1_get (own := RX1) (fs := (bbF ba ca na ta ka ia β)) (v := .ref (ba 5)) hx hb hts hown hK hP (q0 := 0) rfl 12 (Nat.le_of_ble_eq_true rfl) (hts _ q767) rfl dX1_unlike_22 ?_
      refine lv_bipush (v := (30 : Int32)) hx hb dX1_unlike_25 (by decide) ?_
      refine lv_iload hx hb dX1_unlike_27 (lv_at hl 5 rfl) ?_
      refine lv_imul hx hb dX1_unlike_29 ?_
      refine lv_iload_n hx hb dX1_unlike_30 rfl (lv_at hl 1 rfl) ?_
      refine lv_iadd hx hb dX1_unlike_31 ?_
      obtain ⟨h3, hf⟩ := bq_cks hf
      refine bq_ild (j := ((((30 : Int32) * x5) + x1).toNatClampNeg)) (f := β 5) (q := 0) hx hb hK hP 5 rfl rfl h3 rfl dX1_unlike_32 ?_
      refine lv_aload_n hx hb dX1_unlike_33 rfl (lv_at hl 0 rfl) ?_
      refine gX1_get (own := RX1) (fs := (bbF ba ca na ta ka ia β)) (v := .ref (ba 5)) hx hb hts hown hK hP (q0 := 0) rfl 12 (Nat.le_of_ble_eq_true rfl) (hts _ q767) rfl dX1_unlike_34 ?_
      refine lv_bipush (v := (30 : Int32)) hx hb dX1_unlike_37 (by decide) ?_
      refine lv_iload hx hb dX1_unlike_39 (lv_at hl 4 rfl) ?_
      refine lv_imul hx hb dX1_unlike_41 ?_
      refine lv_iload_n hx hb dX1_unlike_42 rfl (lv_at hl 1 rfl) ?_
      refine lv_iadd hx hb dX1_unlike_43 ?_
      obtain ⟨h4, hf⟩ := bq_cks hf
      refine bq_ild (j := ((((30 : Int32) * x4) + x1).toNatClampNeg)) (f := β 5) (q := 0) hx hb hK hP 5 rfl rfl h4 rfl dX1_unlike_44 ?_
      refine lv_icmp_eq (tgt := 54) hx hb dX1_unlike_45 (by decide) (fun c5 => ?_) (fun c5 => ?_)
      · have hf := bq_ip c5 hf
        obtain rfl := Option.some.inj hf
        exact hk0 _ _ hP hD hS ls (lv_sub hl [0, 1, 2, 3, 4, 5] rfl)
      · have hf := bq_in c5 hf
        obtain ⟨v6, ev6, hf⟩ := bq_lts hf
        refine lv_iinc (v := v6) (lv' := [(5, .int v6), (0, .ref (ba 0)), (1, .int x1), (2, .int x2), (3, .int x3), (4, .int x4)]) hx hb dX1_unlike_48 hl (k := 5) rfl (bq_inc (by decide) ev6) (by decide) rfl (fun ls hl => ?_)
        refine lv_goto (tgt := 14) hx hb dX1_unlike_51 (by decide) ?_
        exact ih _ _ _ _ _ _ hf hP hD hS ls (lv_sub hl [1, 2, 3, 4, 5, 0] rfl) hk0
set_option maxHeartbeats 4000000 in
theorem wk_bl_unlike_L5 {p : Program} {e : Env} {R : Room} {s : State} {m : MethodId} {args : Array Value} {below : List Frame} {meth : Method} {c : Code} {A : Nat → Prop} {kc ks : Nat} {Q : State → Prop} {l : Launch} {D : va_G} {am : bqAm} {X vE sE : Nat → Nat} {d : Nat → ClassId} {ba ca ia ka na ta : Nat → Nat} {F : Nat} (C : bq_C p R s m args meth c A D bqCl (bqTy d) am cX1_unlike 6 RX1 0 0) (hkc : kc ≤ R.cells) (hks : ks ≤ R.slots) (hamb : bq_Amb am X vE sE)  {β : bqS} :
    ∀ (k : Nat) (x1 : Int32) (x2 : Int32) (x3 : Int32) (x4 : Int32) (y3 : Int32) (H : Heap) (locs : List Loc), bl_unlike_L5 F β k x1 x2 x3 x4 = some y3 → va_P D bqCl (List.flatten ([bbB d ba ca na ta ka ia β] : List va_W)) H → va_D A (List.flatten ([bbB d ba ca na ta ka ia β] : List va_W)) → va_S A s.heap H locs → ∀ ls : Array Slot, lv_has ls 6 [(0, .ref (ba 0)), (1, .int x1), (2, .int x2), (3, .int x3), (4, .int x4)] →
      (∀ (H : Heap) (locs : List Loc), va_P D bqCl (List.flatten ([bbB d ba ca na ta ka ia β] : List va_W)) H → va_D A (List.flatten ([bbB d ba ca na ta ka ia β] : List va_W)) → va_S A s.heap H locs → ∀ ls : Array Slot, lv_has ls 6 [(3, .int y3)] → W p l e R s m args below meth c H locs kc ks Q (F0 m 70 ls [])) →
      W p l e R s m args below meth c H locs kc ks Q (F0 m 5 ls []) := by
  have C0 := C
  obtain ⟨hx, hb, hown, hts, hml, hlocks, hA, hK, hm, hRf, hRl, hok⟩ := C
  have C := C0
  intro k
  induction k with
  | zero => intro x1 x2 x3 x4 y3 H locs hf
            cases hf
  | succ k ih =>
    intro x1 x2 x3 x4 y3 H locs hf hP hD hS ls hl hk0
    rw [bl_unlike_L5] at hf
    refine lv_iload hx hb dX1_unlike_5 (lv_at hl 4 rfl) ?_
    refine lv_iload_n hx hb dX1_unlike_7 rfl (lv_at hl 2 rfl) ?_
    refine lv_icmp_ge (tgt := 70) hx hb dX1_unlike_8 (by decide) (fun c1 => ?_) (fun c1 => ?_)
    · have hf := bq_ip c1 hf
      obtain rfl := Option.some.inj hf
      exact hk0 _ _ hP hD hS ls (lv_sub hl [3] rfl)
    · have hf := bq_in c1 hf
      refine lv_iconst (v := (0 : Int32)) hx hb dX1_unlike_11 (by decide) ?_
      refine lv_istore (lv' := [(5, .int (0 : Int32)), (0, .ref (ba 0)), (1, .int x1), (2, .int x2), (3, .int x3), (4, .int x4)]) hx hb dX1_unlike_12 hl (by decide) rfl (fun ls hl => ?_)
      obtain ⟨v7, hg, hf⟩ := bq_b1s hf
      refine wk_bl_unlike_L14 C hkc hks hamb _ _ _ _ _ _ _ hg hP hD hS ls (lv_sub hl [1, 2, 3, 4, 5, 0] rfl) ?_
      · intro H locs hP hD hS ls hl
        refine lv_iload hx hb dX1_unlike_54 (lv_at hl 5 rfl) ?_
        refine lv_iload hx hb dX1_unlike_56 (lv_at hl 4 rfl) ?_
        refine lv_icmp_ne (tgt := 64) hx hb dX1_unlike_58 (by decide) (fun c8 => ?_) (fun c8 => ?_)
        · have hf := bq_in c8 hf
          obtain ⟨v9, ev9, hf⟩ := bq_lts hf
          refine lv_iinc (v := v9) (lv' := [(4, .int v9), (0, .ref (ba 0)), (1, .int x1), (2, .int x2), (3, .int x3), (5, .int v7)]) hx hb dX1_unlike_64 hl (k := 4) rfl (bq_inc (by decide) ev9) (by decide) rfl (fun ls hl => ?_)
          refine lv_goto (tgt := 5) hx hb dX1_unlike_67 (by decide) ?_
          exact ih _ _ _ _ _ _ _ hf hP hD hS ls (lv_sub hl [1, 2, 3, 4, 0] rfl) hk0
        · have hf := bq_ip c8 hf
          obtain ⟨v10, ev10, hf⟩ := bq_lts hf
          refine lv_iinc (v := v10) (lv' := [(3, .int v10), (0, .ref (ba 0)), (1, .int x1), (2, .int x2), (4, .int x4), (5, .int v7)]) hx hb dX1_unlike_61 hl (k := 3) rfl (bq_inc (by decide) ev10) (by decide) rfl (fun ls hl => ?_)
          obtain ⟨v11, ev11, hf⟩ := bq_lts hf
          refine lv_iinc (v := v11) (lv' := [(4, .int v11), (3, .int v10), (0, .ref (ba 0)), (1, .int x1), (2, .int x2), (5, .int v7)]) hx hb dX1_unlike_64 hl (k := 4) rfl (bq_inc (by decide) ev11) (by decide) rfl (fun ls hl => ?_)
          refine lv_goto (tgt := 5) hx hb dX1_unlike_67 (by decide) ?_
          exact ih _ _ _ _ _ _ _ hf hP hD hS ls (lv_sub hl [2, 3, 4, 1, 0] rfl) hk0
set_option maxHeartbeats 4000000 in
theorem met_bl_unlike {l : Launch} {D : va_G} {am : bqAm} {X vE sE : Nat → Nat} {d : Nat → ClassId} {ba ca ia ka na ta : Nat → Nat} {F : Nat} {β : bqS} {r : Int32} {x1 : Int32} {x2 : Int32} (hok : bq_Ok am) (hamb : bq_Amb am X vE sE) (hf : bl_unlike F β x1 x2 = some r) : bq_M l yX1_unlike cX1_unlike 6 (some .int) 0 0 D bqCl (bqTy d) am [.ref (ba 0), .int x1, .int x2] (List.flatten ([bbB d ba ca na ta ka ia β] : List va_W)) (some (.int r)) (List.flatten ([bbB d ba ca na ta ka ia β] : List va_W)) := by
  unfold bl_unlike at hf
  refine bq_of hok (by decide +kernel) (Nat.le_of_ble_eq_true rfl) ?_
  intro p e s m below meth c A ls C hr hP hD hS hl
  have C0 := C
  obtain ⟨hx, hb, hown, hts, hml, hlocks, hA, hK, hm, hRf, hRl, hok⟩ := C
  have C := C0
  have hkc := Nat.zero_le 0
  have hks := Nat.zero_le 0
  have hl : lv_has ls 6 [(0, .ref (ba 0)), (1, .int x1), (2, .int x2)] := hl
  refine lv_iconst (v := (0 : Int32)) hx hb dX1_unlike_0 (by decide) ?_
  refine lv_istore_n (lv' := [(3, .int (0 : Int32)), (0, .ref (ba 0)), (1, .int x1), (2, .int x2)]) hx hb dX1_unlike_1 rfl hl (by decide) rfl (fun ls hl => ?_)
  refine lv_iconst (v := (0 : Int32)) hx hb dX1_unlike_2 (by decide) ?_
  refine lv_istore (lv' := [(4, .int (0 : Int32)), (3, .int (0 : Int32)), (0, .ref (ba 0)), (1, .int x1), (2, .int x2)]) hx hb dX1_unlike_3 hl (by decide) rfl (fun ls hl => ?_)
  obtain ⟨v12, hg, hf⟩ := bq_b1s hf
  refine wk_bl_unlike_L5 C hkc hks hamb _ _ _ _ _ _ _ _ hg hP hD hS ls (lv_sub hl [2, 3, 4, 1, 0] rfl) ?_
  · intro H locs hP hD hS ls hl
    refine lv_iload_n hx hb dX1_unlike_70 rfl (lv_at hl 0 rfl) ?_
    obtain rfl := Option.some.inj hf
    exact bq_iret C hr hP hD hS dX1_unlike_71
set_option maxHeartbeats 4000000 in
theorem wk_bl_look_L13 {p : Program} {e : Env} {R : Room} {s : State} {m : MethodId} {args : Array Value} {below : List Frame} {meth : Method} {c : Code} {A : Nat → Prop} {kc ks : Nat} {Q : State → Prop} {l : Launch} {D : va_G} {am : bqAm} {X vE sE : Nat → Nat} {d : Nat → ClassId} {ba ca ia ka na ta : Nat → Nat} {dy fa : Option Nat} {L : Nat} {mc : Int32} {P : va_W} {F : Nat} {E : bqE} (C : bq_C p R s m args meth c A D bqCl (bqTy d) am cX1_look 7 RX1 806 24174) (hkc : kc ≤ R.cells) (hks : ks ≤ R.slots) (hamb : bq_Amb am X vE sE) (hst : l.stackTraces = false) (hE : bq_E P vE dy fa E) (hby : bq_By l D am d ca vE P 400) (hL : E.1 ≤ L ∧ L < 2147483648) {σ : bqS} {μ : bqS} {κ : bqS} {x1 : Int32} :
    ∀ (k : Nat) (x2 : Int32) (x3 : Int32) (β : bqS) (τ : bqS) (ν : bqS) (y2 : Int32) (β' : bqS) (τ' : bqS) (ν' : bqS) (H : Heap) (locs : List Loc), bl_look_L13 F E σ μ κ k x2 x3 β τ ν = some (y2, β', τ', ν') → va_P D bqCl (List.flatten ([bbB d ba ca na ta ka ia β, stB d na σ, stB d ta τ, bkB d ka na μ, viB d ca ν, coB d ca dy fa κ, lsB d ca L mc E.1, giB ca E.1 κ, P] : List va_W)) H → va_D A (List.flatten ([bbB d ba ca na ta ka ia β, stB d na σ, stB d ta τ, bkB d ka na μ, viB d ca ν, coB d ca dy fa κ, lsB d ca L mc E.1, giB ca E.1 κ, P] : List va_W)) → va_S A s.heap H locs → ∀ ls : Array Slot, lv_has ls 7 [(0, .ref (ba 0)), (1, .int x1), (2, .int x2), (3, .int x3)] →
      (∀ (H : Heap) (locs : List Loc), va_P D bqCl (List.flatten ([bbB d ba ca na ta ka ia β', stB d na σ, stB d ta τ', bkB d ka na μ, viB d ca ν', coB d ca dy fa κ, lsB d ca L mc E.1, giB ca E.1 κ, P] : List va_W)) H → va_D A (List.flatten ([bbB d ba ca na ta ka ia β', stB d na σ, stB d ta τ', bkB d ka na μ, viB d ca ν', coB d ca dy fa κ, lsB d ca L mc E.1, giB ca E.1 κ, P] : List va_W)) → va_S A s.heap H locs → ∀ ls : Array Slot, lv_has ls 7 [(0, .ref (ba 0)), (1, .int x1), (2, .int y2)] → W p l e R s m args below meth c H locs kc ks Q (F0 m 66 ls [])) →
      W p l e R s m args below meth c H locs kc ks Q (F0 m 13 ls []) := by
  have C0 := C
  obtain ⟨hx, hb, hown, hts, hml, hlocks, hA, hK, hm, hRf, hRl, hok⟩ := C
  have C := C0
  intro k
  induction k with
  | zero => intro x2 x3 β τ ν y2 β' τ' ν' H locs hf
            cases hf
  | succ k ih =>
    intro x2 x3 β τ ν y2 β' τ' ν' H locs hf hP hD hS ls hl hk0
    rw [bl_look_L13] at hf
    refine lv_iload_n hx hb dX1_look_13 rfl (lv_at hl 3 rfl) ?_
    refine lv_aload_n hx hb dX1_look_14 rfl (lv_at hl 0 rfl) ?_
    obtain ⟨v3, hg, hf⟩ := bq_b1s hf
    refine bq_cV (bs := [bbB d ba ca na ta ka ia β, stB d na σ, stB d ta τ, bkB d ka na μ, viB d ca ν, coB d ca dy fa κ, lsB d ca L mc E.1, giB ca E.1 κ, P]) (bc := [bbB d ba ca na ta ka ia β, coB d ca dy fa κ, lsB d ca L mc E.1]) (br := [stB d na σ, stB d ta τ, bkB d ka na μ, viB d ca ν, giB ca E.1 κ, P]) (bc' := [bbB d ba ca na ta ka ia β, coB d ca dy fa κ, lsB d ca L mc E.1]) (bs' := [bbB d ba ca na ta ka ia β, stB d na σ, stB d ta τ, bkB d ka na μ, viB d ca ν, coB d ca dy fa κ, lsB d ca L mc E.1, giB ca E.1 κ, P]) (As := []) (rest := [.int x3]) (o := (some (.int v3))) C hkc hks (met_bl_guesses hok hamb hL hg) (bq_pm [0, 5, 6, 1, 2, 3, 4, 7, 8] rfl rfl rfl) (bq_pm [0, 3, 4, 5, 6, 1, 2, 7, 8] rfl rfl rfl) (lw_V q1624 q1626 qs43 q113 q1627) (hd_X1_guesses) (Nat.le_of_ble_eq_true rfl) (Nat.le_of_ble_eq_true rfl) (va_recv hK hP (ci := 1) (q0 := 0) rfl rfl) rfl hl.1 rfl (Nat.le_of_ble_eq_true rfl) dX1_look_15 hP hD hS (fun H locs hP hD hS => ?_)
    refine lv_icmp_ge (tgt := 66) hx hb dX1_look_18 (by decide) (fun c4 => ?_) (fun c4 => ?_)
    · have hf := bq_ip c4 hf
      obtain ⟨rfl, rfl, rfl, rfl⟩ := bq_p4 hf
      exact hk0 _ _ hP hD hS ls (lv_sub hl [0, 1, 2] rfl)
    · have hf := bq_in c4 hf
      refine lv_aload_n hx hb dX1_look_21 rfl (lv_at hl 0 rfl) ?_
      refine lv_iload_n hx hb dX1_look_22 rfl (lv_at hl 3 rfl) ?_
      obtain ⟨v5, τ6, ν7, hg, hf⟩ := bq_b3s hf
      refine bq_cV (bs := [bbB d ba ca na ta ka ia β, stB d na σ, stB d ta τ, bkB d ka na μ, viB d ca ν, coB d ca dy fa κ, lsB d ca L mc E.1, giB ca E.1 κ, P]) (bc := [bbB d ba ca na ta ka ia β, stB d na σ, stB d ta τ, viB d ca ν, coB d ca dy fa κ, lsB d ca L mc E.1, giB ca E.1 κ, P]) (br := [bkB d ka na μ]) (bc' := [bbB d ba ca na ta ka ia β, stB d na σ, stB d ta τ6, viB d ca ν7, coB d ca dy fa κ, lsB d ca L mc E.1, giB ca E.1 κ, P]) (bs' := [bbB d ba ca na ta ka ia β, stB d na σ, stB d ta τ6, bkB d ka na μ, viB d ca ν7, coB d ca dy fa κ, lsB d ca L mc E.1, giB ca E.1 κ, P]) (As := [.int x3]) (rest := []) (o := (some (.int v5))) C hkc hks (met_bl_isGuess hok hamb hE hby hL hg) (bq_pm [0, 1, 2, 4, 5, 6, 7, 8, 3] rfl rfl rfl) (bq_pm [0, 1, 2, 8, 3, 4, 5, 6, 7] rfl rfl rfl) (lw_V q1628 q1630 qs44 q113 q1631) (hd_X1_isGuess) (Nat.le_of_ble_eq_true rfl) (Nat.le_of_ble_eq_true rfl) (va_recv hK hP (ci := 1) (q0 := 0) rfl rfl) rfl hl.1 rfl (Nat.le_of_ble_eq_true rfl) dX1_look_23 hP hD hS (fun H locs hP hD hS => ?_)
      refine lv_if_eq (tgt := 60) hx hb dX1_look_26 (by decide) (fun c8 => ?_) (fun c8 => ?_)
      · have hf := bq_ip c8 hf
        obtain ⟨v9, ev9, hf⟩ := bq_lts hf
        refine lv_iinc (v := v9) (lv' := [(3, .int v9), (0, .ref (ba 0)), (1, .int x1), (2, .int x2)]) hx hb dX1_look_60 hl (k := 3) rfl (bq_inc (by decide) ev9) (by decide) rfl (fun ls hl => ?_)
        refine lv_goto (tgt := 13) hx hb dX1_look_63 (by decide) ?_
        exact ih _ _ _ _ _ _ _ _ _ _ _ hf hP hD hS ls (lv_sub hl [1, 2, 3, 0] rfl) hk0
      · have hf := bq_in c8 hf
        refine lv_aload_n hx hb dX1_look_29 rfl (lv_at hl 0 rfl) ?_
        obtain ⟨v10, β11, τ12, ν13, hg, hf⟩ := bq_b4s hf
        refine bq_cV (bs := [bbB d ba ca na ta ka ia β, stB d na σ, stB d ta τ6, bkB d ka na μ, viB d ca ν7, coB d ca dy fa κ, lsB d ca L mc E.1, giB ca E.1 κ, P]) (bc := [bbB d ba ca na ta ka ia β, stB d na σ, stB d ta τ6, bkB d ka na μ, viB d ca ν7, coB d ca dy fa κ, lsB d ca L mc E.1, giB ca E.1 κ, P]) (br := []) (bc' := [bbB d ba ca na ta ka ia β11, stB d na σ, stB d ta τ12, bkB d ka na μ, viB d ca ν13, coB d ca dy fa κ, lsB d ca L mc E.1, giB ca E.1 κ, P]) (bs' := [bbB d ba ca na ta ka ia β11, stB d na σ, stB d ta τ12, bkB d ka na μ, viB d ca ν13, coB d ca dy fa κ, lsB d ca L mc E.1, giB ca E.1 κ, P]) (As := []) (rest := []) (o := (some (.int v10))) C hkc hks (met_bl_isSeen hok hamb hE hby hL hg) (bq_pm [0, 1, 2, 3, 4, 5, 6, 7, 8] rfl rfl rfl) (bq_pm [0, 1, 2, 3, 4, 5, 6, 7, 8] rfl rfl rfl) (lw_V q1620 q1622 qs42 q113 q1623) (hd_X1_isSeen) (Nat.le_of_ble_eq_true rfl) (Nat.le_of_ble_eq_true rfl) (va_recv hK hP (ci := 1) (q0 := 0) rfl rfl) rfl hl.1 rfl (Nat.le_of_ble_eq_true rfl) dX1_look_30 hP hD hS (fun H locs hP hD hS => ?_)
        refine lv_if_ne (tgt := 39) hx hb dX1_look_33 (by decide) (fun c14 => ?_) (fun c14 => ?_)
        · have hf := bq_in c14 hf
          refine lv_aload_n hx hb dX1_look_39 rfl (lv_at hl 0 rfl) ?_
          refine gX1_get (own := RX1) (fs := (bbF ba ca na ta ka ia β11)) (v := .ref (ba 4)) hx hb hts hown hK hP (q0 := 0) rfl 11 (Nat.le_of_ble_eq_true rfl) (hts _ q766) rfl dX1_look_40 ?_
          refine lv_iconst (v := (0 : Int32)) hx hb dX1_look_43 (by decide) ?_
          refine lv_aload_n hx hb dX1_look_44 rfl (lv_at hl 0 rfl) ?_
          refine gX1_get (own := RX1) (fs := (bbF ba ca na ta ka ia β11)) (v := .ref (ba 5)) hx hb hts hown hK hP (q0 := 0) rfl 12 (Nat.le_of_ble_eq_true rfl) (hts _ q767) rfl dX1_look_45 ?_
          refine lv_bipush (v := (30 : Int32)) hx hb dX1_look_48 (by decide) ?_
          refine lv_iload_n hx hb dX1_look_50 rfl (lv_at hl 2 rfl) ?_
          refine lv_imul hx hb dX1_look_51 ?_
          refine lv_bipush (v := (30 : Int32)) hx hb dX1_look_52 (by decide) ?_
          obtain ⟨h15, hf⟩ := bq_cps hf
          obtain ⟨β16, eβ16, hf⟩ := bq_lts hf
          refine bq_acopy (u := 30) (v := (((30 : Int32) * x2).toNatClampNeg)) (f := β11 4) (g := β11 5) (ws' := (List.flatten ([bbB d ba ca na ta ka ia (va_up β11 5 (va_cpy (β11 4) (β11 5) 0 (((30 : Int32) * x2).toNatClampNeg) 30)), stB d na σ, stB d ta τ12, bkB d ka na μ, viB d ca ν13, coB d ca dy fa κ, lsB d ca L mc E.1, giB ca E.1 κ, P] : List va_W))) hx hb (hml.trans hl.1.symm) hown (hts _ q989) (hts _ q302) (hts _ q301) (hts _ q129) hK hP hD hS 4 5 rfl rfl rfl (by decide) (by decide) h15.1 rfl (by decide) h15.2 (Nat.le_trans (Nat.le_of_ble_eq_true rfl) hRf) (Nat.le_trans (by decide +kernel) hRl) rfl dX1_look_54 (fun H locs hP hD hS => ?_)
          rw [← eβ16] at hP hD
          obtain ⟨v17, ev17, hf⟩ := bq_lts hf
          refine lv_iinc (v := v17) (lv' := [(2, .int v17), (0, .ref (ba 0)), (1, .int x1), (3, .int x3)]) hx hb dX1_look_57 hl (k := 2) rfl (bq_inc (by decide) ev17) (by decide) rfl (fun ls hl => ?_)
          obtain ⟨v18, ev18, hf⟩ := bq_lts hf
          refine lv_iinc (v := v18) (lv' := [(3, .int v18), (2, .int v17), (0, .ref (ba 0)), (1, .int x1)]) hx hb dX1_look_60 hl (k := 3) rfl (bq_inc (by decide) ev18) (by decide) rfl (fun ls hl => ?_)
          refine lv_goto (tgt := 13) hx hb dX1_look_63 (by decide) ?_
          exact ih _ _ _ _ _ _ _ _ _ _ _ hf hP hD hS ls (lv_sub hl [2, 3, 1, 0] rfl) hk0
        · have hf := bq_ip c14 hf
          refine lv_goto (tgt := 60) hx hb dX1_look_36 (by decide) ?_
          obtain ⟨v19, ev19, hf⟩ := bq_lts hf
          refine lv_iinc (v := v19) (lv' := [(3, .int v19), (0, .ref (ba 0)), (1, .int x1), (2, .int x2)]) hx hb dX1_look_60 hl (k := 3) rfl (bq_inc (by decide) ev19) (by decide) rfl (fun ls hl => ?_)
          refine lv_goto (tgt := 13) hx hb dX1_look_63 (by decide) ?_
          exact ih _ _ _ _ _ _ _ _ _ _ _ hf hP hD hS ls (lv_sub hl [1, 2, 3, 0] rfl) hk0
