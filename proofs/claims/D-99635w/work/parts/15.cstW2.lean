set_option maxRecDepth 100000
set_option maxHeartbeats 4000000 in
theorem met_st_goes {l : Launch} {D : va_G} {am : bqAm} {X vE sE : Nat → Nat} {d : Nat → ClassId} {ca sa : Nat → Nat} {dy fa : Option Nat} {L : Nat} {mc : Int32} {P : va_W} {F : Nat} {E : bqE} {σ : bqS} {ν : bqS} {κ : bqS} {σ' : bqS} {ν' : bqS} (hok : bq_Ok am) (hamb : bq_Amb am X vE sE) (hE : bq_E P vE dy fa E) (hby : bq_By l D am d ca vE P 400) (hL : E.1 ≤ L ∧ L < 2147483648) (hf : st_goes F E σ ν κ = some (σ', ν')) : bq_M l yX6_goes cX6_goes 3 none 803 24108 D bqCl (bqTy d) am [.ref (sa 0), .ref (ca 0)] (List.flatten ([stB d sa σ, viB d ca ν, coB d ca dy fa κ, lsB d ca L mc E.1, giB ca E.1 κ, P] : List va_W)) none (List.flatten ([stB d sa σ', viB d ca ν', coB d ca dy fa κ, lsB d ca L mc E.1, giB ca E.1 κ, P] : List va_W)) := by
  unfold st_goes at hf
  refine bq_of hok (by decide +kernel) (Nat.le_of_ble_eq_true rfl) ?_
  intro p e s m below meth c A ls C hr hP hD hS hl
  have C0 := C
  obtain ⟨hx, hb, hown, hts, hml, hlocks, hA, hK, hm, hRf, hRl, hok⟩ := C
  have C := C0
  have hkc := Nat.zero_le 0
  have hks := Nat.zero_le 0
  have hl : lv_has ls 3 [(0, .ref (sa 0)), (1, .ref (ca 0))] := hl
  refine lv_aload_n hx hb dX6_goes_0 rfl (lv_at hl 0 rfl) ?_
  refine lv_iconst (v := (0 : Int32)) hx hb dX6_goes_1 (by decide) ?_
  obtain ⟨σ1, eσ1, hf⟩ := bq_lts hf
  refine gX6_put (own := RX6) (fs := (stF sa σ)) (ty := .int) (ws' := (List.flatten ([stB d sa (bq_up σ 0 8 (0 : Int32)), viB d ca ν, coB d ca dy fa κ, lsB d ca L mc E.1, giB ca E.1 κ, P] : List va_W))) hx hb hts hown hK hP hD hS (q0 := 0) rfl 8 (Nat.le_of_ble_eq_true rfl) (hts _ q614) rfl rfl rfl rfl (Nat.le_of_ble_eq_true rfl) rfl dX6_goes_2 (fun H locs hP hD hS => ?_)
  rw [← eσ1] at hP hD
  refine lv_iconst (v := (0 : Int32)) hx hb dX6_goes_5 (by decide) ?_
  refine lv_istore_n (lv' := [(2, .int (0 : Int32)), (0, .ref (sa 0)), (1, .ref (ca 0))]) hx hb dX6_goes_6 rfl hl (by decide) rfl (fun ls hl => ?_)
  obtain ⟨σ12, ν13, hg, hf⟩ := bq_b2s hf
  refine wk_st_goes_L7 C hkc hks hamb hE hby hL _ _ _ _ _ _ _ _ hg hP hD hS ls (lv_sub hl [1, 2, 0] rfl) ?_
  · intro H locs hP hD hS ls hl
    refine lv_iconst (v := (0 : Int32)) hx hb dX6_goes_58 (by decide) ?_
    refine lv_istore_n (lv' := [(2, .int (0 : Int32)), (0, .ref (sa 0)), (1, .ref (ca 0))]) hx hb dX6_goes_59 rfl hl (by decide) rfl (fun ls hl => ?_)
    obtain ⟨σ21, hg, hf⟩ := bq_b1s hf
    refine wk_st_goes_L60 C hkc hks hamb hE hby hL _ _ _ _ _ _ hg hP hD hS ls (lv_sub hl [1, 2, 0] rfl) ?_
    · intro H locs hP hD hS ls hl
      refine lv_aload_n hx hb dX6_goes_99 rfl (lv_at hl 0 rfl) ?_
      refine lv_sipush (v := (9999 : Int32)) hx hb dX6_goes_100 (by decide) ?_
      refine lv_aload_n hx hb dX6_goes_103 rfl (lv_at hl 0 rfl) ?_
      refine gX6_get (own := RX6) (fs := (stF sa σ21)) (v := .int (σ21 0 5)) hx hb hts hown hK hP (q0 := 0) rfl 5 (Nat.le_of_ble_eq_true rfl) (hts _ q608) rfl dX6_goes_104 ?_
      refine lv_aload_n hx hb dX6_goes_107 rfl (lv_at hl 0 rfl) ?_
      refine gX6_get (own := RX6) (fs := (stF sa σ21)) (v := .int (σ21 0 8)) hx hb hts hown hK hP (q0 := 0) rfl 8 (Nat.le_of_ble_eq_true rfl) (hts _ q614) rfl dX6_goes_108 ?_
      obtain ⟨v22, hg, hf⟩ := bq_b1s hf
      refine bq_cS (bs := [stB d sa σ21, viB d ca ν13, coB d ca dy fa κ, lsB d ca L mc E.1, giB ca E.1 κ, P]) (bc := []) (br := [stB d sa σ21, viB d ca ν13, coB d ca dy fa κ, lsB d ca L mc E.1, giB ca E.1 κ, P]) (bc' := []) (bs' := [stB d sa σ21, viB d ca ν13, coB d ca dy fa κ, lsB d ca L mc E.1, giB ca E.1 κ, P]) (As := [.int (σ21 0 8)]) (rest := [.int (σ21 0 5), .int (9999 : Int32), .ref (sa 0)]) (o := (some (.int v22))) C hkc hks (met_jd_bits hok hg) (bq_pm [0, 1, 2, 3, 4, 5] rfl rfl rfl) (bq_pm [0, 1, 2, 3, 4, 5] rfl rfl rfl) (lw_S q934 q935 q133 q936) (hd_J16_bitCount) (Nat.le_of_ble_eq_true rfl) (Nat.le_of_ble_eq_true rfl) rfl hl.1 rfl (Nat.le_of_ble_eq_true rfl) dX6_goes_111 hP hD hS (fun H locs hP hD hS => ?_)
      refine lv_iadd hx hb dX6_goes_114 ?_
      refine va_mmin hx hb (hml.trans hl.1.symm) hown (hts _ q915) (hts _ q298) (hts _ q127) (hts _ q299) (Nat.le_trans (Nat.le_of_ble_eq_true rfl) hRf) (Nat.le_trans (Nat.le_of_ble_eq_true rfl) hRl) hkc hks dX6_goes_115 ?_
      obtain ⟨σ23, eσ23, hf⟩ := bq_lts hf
      refine gX6_put (own := RX6) (fs := (stF sa σ21)) (ty := .int) (ws' := (List.flatten ([stB d sa (bq_up σ21 0 5 (if ((σ21 0 5) + v22) < (9999 : Int32) then ((σ21 0 5) + v22) else (9999 : Int32))), viB d ca ν13, coB d ca dy fa κ, lsB d ca L mc E.1, giB ca E.1 κ, P] : List va_W))) hx hb hts hown hK hP hD hS (q0 := 0) rfl 5 (Nat.le_of_ble_eq_true rfl) (hts _ q608) rfl rfl rfl rfl (Nat.le_of_ble_eq_true rfl) rfl dX6_goes_118 (fun H locs hP hD hS => ?_)
      rw [← eσ23] at hP hD
      refine lv_iconst (v := (0 : Int32)) hx hb dX6_goes_121 (by decide) ?_
      refine lv_istore_n (lv' := [(2, .int (0 : Int32)), (0, .ref (sa 0)), (1, .ref (ca 0))]) hx hb dX6_goes_122 rfl hl (by decide) rfl (fun ls hl => ?_)
      obtain ⟨σ30, hg, hf⟩ := bq_b1s hf
      refine wk_st_goes_L123 C hkc hks hamb hE hby hL _ _ _ _ _ _ hg hP hD hS ls (lv_sub hl [1, 2, 0] rfl) ?_
      · intro H locs hP hD hS ls hl
        refine lv_iconst (v := (0 : Int32)) hx hb dX6_goes_158 (by decide) ?_
        refine lv_istore_n (lv' := [(2, .int (0 : Int32)), (0, .ref (sa 0)), (1, .ref (ca 0))]) hx hb dX6_goes_159 rfl hl (by decide) rfl (fun ls hl => ?_)
        obtain ⟨σ38, ν39, hg, hf⟩ := bq_b2s hf
        refine wk_st_goes_L160 C hkc hks hamb hE hby hL _ _ _ _ _ _ _ _ hg hP hD hS ls (lv_sub hl [1, 2, 0] rfl) ?_
        · intro H locs hP hD hS ls hl
          refine lv_iconst (v := (0 : Int32)) hx hb dX6_goes_186 (by decide) ?_
          refine lv_istore_n (lv' := [(2, .int (0 : Int32)), (0, .ref (sa 0)), (1, .ref (ca 0))]) hx hb dX6_goes_187 rfl hl (by decide) rfl (fun ls hl => ?_)
          obtain ⟨σ47, hg, hf⟩ := bq_b1s hf
          refine wk_st_goes_L188 C hkc hks hamb hE hby hL _ _ _ _ _ _ hg hP hD hS ls (lv_sub hl [1, 2, 0] rfl) ?_
          · intro H locs hP hD hS ls hl
            refine lv_aload_n hx hb dX6_goes_217 rfl (lv_at hl 0 rfl) ?_
            refine lv_dup hx hb dX6_goes_218 rfl ?_
            refine gX6_get (own := RX6) (fs := (stF sa σ47)) (v := .int (σ47 0 3)) hx hb hts hown hK hP (q0 := 0) rfl 3 (Nat.le_of_ble_eq_true rfl) (hts _ q604) rfl dX6_goes_219 ?_
            refine lv_iconst (v := (1 : Int32)) hx hb dX6_goes_222 (by decide) ?_
            refine lv_iadd hx hb dX6_goes_223 ?_
            obtain ⟨σ48, eσ48, hf⟩ := bq_lts hf
            refine gX6_put (own := RX6) (fs := (stF sa σ47)) (ty := .int) (ws' := (List.flatten ([stB d sa (bq_up σ47 0 3 ((σ47 0 3) + (1 : Int32))), viB d ca ν39, coB d ca dy fa κ, lsB d ca L mc E.1, giB ca E.1 κ, P] : List va_W))) hx hb hts hown hK hP hD hS (q0 := 0) rfl 3 (Nat.le_of_ble_eq_true rfl) (hts _ q604) rfl rfl rfl rfl (Nat.le_of_ble_eq_true rfl) rfl dX6_goes_224 (fun H locs hP hD hS => ?_)
            rw [← eσ48] at hP hD
            obtain ⟨rfl, rfl⟩ := bq_p2 hf
            exact bq_vret C hr hP hD hS dX6_goes_227
