set_option maxRecDepth 100000
set_option maxHeartbeats 4000000 in
theorem met_told_by {l : Launch} {D : va_G} {am : bqAm} {X vE sE : Nat → Nat} {d : Nat → ClassId} {ca : Nat → Nat} {P : va_W} {q0 i0 : Nat} {n0 : Int32} {NFx NLx : Nat} {ν : bqS} {r : Int32} (hok : bq_Ok am) (hamb : bq_Amb am X vE sE) (hi : (List.flatten ([viB d ca ν, P] : List va_W))[i0]? = some (q0, .inr (8, [.int n0]))) (hRm : 0 ≤ NFx ∧ 0 ≤ NLx) (hf : told_by n0 ν = some r) : bq_M l yX11_by cX11_by 2 (some .int) NFx NLx D bqCl (bqTy d) am [.ref q0, .ref (ca 4)] (List.flatten ([viB d ca ν, P] : List va_W)) (some (.int r)) (List.flatten ([viB d ca ν, P] : List va_W)) := by
  unfold told_by at hf
  refine bq_of hok (by decide +kernel) (Nat.le_of_ble_eq_true rfl) ?_
  intro p e s m below meth c A ls C hr hP hD hS hl
  have C0 := C
  obtain ⟨hx, hb, hown, hts, hml, hlocks, hA, hK, hm, hRf, hRl, hok⟩ := C
  have C := C0
  have hkc := Nat.zero_le 0
  have hks := Nat.zero_le 0
  have hl : lv_has ls 2 [(0, .ref q0), (1, .ref (ca 4))] := hl
  refine lv_aload_n hx hb dX11_by_0 rfl (lv_at hl 0 rfl) ?_
  refine gX11_get (own := RX11) (fs := [.int n0]) (v := .int n0) hx hb hts hown hK hP hi 0 (Nat.le_of_ble_eq_true rfl) (hts _ q1248) rfl dX11_by_1 ?_
  obtain rfl := Option.some.inj hf
  exact bq_iret C hr hP hD hS dX11_by_4
set_option maxHeartbeats 4000000 in
theorem met_seen_by {l : Launch} {D : va_G} {am : bqAm} {X vE sE : Nat → Nat} {d : Nat → ClassId} {ca : Nat → Nat} {P : va_W} {q0 i0 j0 : Nat} {NFx NLx : Nat} {ν : bqS} {r : Int32} (hok : bq_Ok am) (hamb : bq_Amb am X vE sE) (hi : (List.flatten ([viB d ca ν, P] : List va_W))[i0]? = some (q0, .inr (9, [.ref (vE j0)]))) (hj0 : j0 < 6) (hRm : 2 ≤ NFx ∧ 40 ≤ NLx) (hf : seen_by j0 ν = some r) : bq_M l yX12_by cX12_by 2 (some .int) NFx NLx D bqCl (bqTy d) am [.ref q0, .ref (ca 4)] (List.flatten ([viB d ca ν, P] : List va_W)) (some (.int r)) (List.flatten ([viB d ca ν, P] : List va_W)) := by
  unfold seen_by at hf
  refine bq_of hok (by decide +kernel) (Nat.le_of_ble_eq_true rfl) ?_
  intro p e s m below meth c A ls C hr hP hD hS hl
  have C0 := C
  obtain ⟨hx, hb, hown, hts, hml, hlocks, hA, hK, hm, hRf, hRl, hok⟩ := C
  have C := C0
  have hkc := Nat.zero_le 0
  have hks := Nat.zero_le 0
  have hl : lv_has ls 2 [(0, .ref q0), (1, .ref (ca 4))] := hl
  refine lv_aload_n hx hb dX12_by_0 rfl (lv_at hl 1 rfl) ?_
  refine gX3_getN (own := RX12) (host := "BlueBag") (fs := (viF ca)) (v := .ref (ca 5)) hx hb hts hown hK hP (q0 := 0) rfl 0 (Nat.le_of_ble_eq_true rfl) (bq_nF hamb hm 35 rfl) rfl dX12_by_1 ?_
  refine lv_aload_n hx hb dX12_by_4 rfl (lv_at hl 0 rfl) ?_
  refine gX12_get (own := RX12) (fs := [.ref (vE j0)]) (v := .ref (vE j0)) hx hb hts hown hK hP hi 0 (Nat.le_of_ble_eq_true rfl) (hts _ q1280) rfl dX12_by_5 ?_
  refine bq_callOrd (rest := [.ref (ca 5)]) C hkc hks hok hamb hj0 q909 (by omega) (by omega) hl.1 (Nat.le_of_ble_eq_true rfl) dX12_by_8 hP hD hS (fun H locs hP hD hS => ?_)
  obtain ⟨h1, hf⟩ := bq_cks hf
  refine bq_ild (j := ((Int32.ofNat j0).toNatClampNeg)) (f := ν 1) (q := 0) hx hb hK hP 1 rfl rfl h1 rfl dX12_by_11 ?_
  obtain rfl := Option.some.inj hf
  exact bq_iret C hr hP hD hS dX12_by_12
set_option maxHeartbeats 4000000 in
theorem met_not_by {l : Launch} {D : va_G} {am : bqAm} {X vE sE : Nat → Nat} {d : Nat → ClassId} {ca : Nat → Nat} {P : va_W} {q0 i0 q1 N0 : Nat} {f1 : (Nat → Int32) → Int32} {NFx NLx : Nat} {ν : bqS} {r : Int32} (hok : bq_Ok am) (hamb : bq_Amb am X vE sE) (hi : (List.flatten ([viB d ca ν, P] : List va_W))[i0]? = some (q0, .inr (11, [.ref q1]))) (hq1 : exq P vE N0 f1 q1) (hby : bq_By l D am d ca vE P N0) (hRm : 2 * N0 + 1 ≤ NFx ∧ 60 * N0 + 40 ≤ NLx) (hf : not_by f1 ν = some r) : bq_M l yX14_by cX14_by 2 (some .int) NFx NLx D bqCl (bqTy d) am [.ref q0, .ref (ca 4)] (List.flatten ([viB d ca ν, P] : List va_W)) (some (.int r)) (List.flatten ([viB d ca ν, P] : List va_W)) := by
  unfold not_by at hf
  refine bq_of hok (by decide +kernel) (Nat.le_of_ble_eq_true rfl) ?_
  intro p e s m below meth c A ls C hr hP hD hS hl
  have C0 := C
  obtain ⟨hx, hb, hown, hts, hml, hlocks, hA, hK, hm, hRf, hRl, hok⟩ := C
  have C := C0
  have hkc := Nat.zero_le 0
  have hks := Nat.zero_le 0
  have hl : lv_has ls 2 [(0, .ref q0), (1, .ref (ca 4))] := hl
  refine lv_aload_n hx hb dX14_by_0 rfl (lv_at hl 0 rfl) ?_
  refine gX14_get (own := RX14) (fs := [.ref q1]) (v := .ref q1) hx hb hts hown hK hP hi 0 (Nat.le_of_ble_eq_true rfl) (hts _ q1327) rfl dX14_by_1 ?_
  refine lv_aload_n hx hb dX14_by_4 rfl (lv_at hl 1 rfl) ?_
  refine bq_callBy (bs := [viB d ca ν, P]) (br := []) (ν := ν) (rest := []) C hkc hks hok hamb hby hq1 q906 (by omega) (by omega) (bq_pm [0, 1] rfl rfl rfl) hl.1 (Nat.le_of_ble_eq_true rfl) dX14_by_5 hP hD hS (fun H locs hP hD hS => ?_)
  refine lv_if_ne (tgt := 15) hx hb dX14_by_8 (by decide) (fun c1 => ?_) (fun c1 => ?_)
  · have hf := bq_in c1 hf
    refine lv_iconst (v := (0 : Int32)) hx hb dX14_by_15 (by decide) ?_
    obtain rfl := Option.some.inj hf
    exact bq_iret C hr hP hD hS dX14_by_16
  · have hf := bq_ip c1 hf
    refine lv_iconst (v := (1 : Int32)) hx hb dX14_by_11 (by decide) ?_
    refine lv_goto (tgt := 16) hx hb dX14_by_12 (by decide) ?_
    obtain rfl := Option.some.inj hf
    exact bq_iret C hr hP hD hS dX14_by_16
set_option maxHeartbeats 4000000 in
theorem met_both_by {l : Launch} {D : va_G} {am : bqAm} {X vE sE : Nat → Nat} {d : Nat → ClassId} {ca : Nat → Nat} {P : va_W} {q0 i0 q1 q2 N0 : Nat} {act : Int32} {f1 f2 : (Nat → Int32) → Int32} {NFx NLx : Nat} {ν : bqS} {r : Int32} (hok : bq_Ok am) (hamb : bq_Amb am X vE sE) (hi : (List.flatten ([viB d ca ν, P] : List va_W))[i0]? = some (q0, .inr (10, [.int act, .ref q1, .ref q2]))) (hq1 : exq P vE N0 f1 q1) (hq2 : exq P vE N0 f2 q2) (hby : bq_By l D am d ca vE P N0) (hRm : 2 * N0 + 1 ≤ NFx ∧ 60 * N0 + 40 ≤ NLx) (hf : both_by act f1 f2 ν = some r) : bq_M l yX13_by cX13_by 4 (some .int) NFx NLx D bqCl (bqTy d) am [.ref q0, .ref (ca 4)] (List.flatten ([viB d ca ν, P] : List va_W)) (some (.int r)) (List.flatten ([viB d ca ν, P] : List va_W)) := by
  unfold both_by at hf
  refine bq_of hok (by decide +kernel) (Nat.le_of_ble_eq_true rfl) ?_
  intro p e s m below meth c A ls C hr hP hD hS hl
  have C0 := C
  obtain ⟨hx, hb, hown, hts, hml, hlocks, hA, hK, hm, hRf, hRl, hok⟩ := C
  have C := C0
  have hkc := Nat.zero_le 0
  have hks := Nat.zero_le 0
  have hl : lv_has ls 4 [(0, .ref q0), (1, .ref (ca 4))] := hl
  refine lv_aload_n hx hb dX13_by_0 rfl (lv_at hl 0 rfl) ?_
  refine gX13_get (own := RX13) (fs := [.int act, .ref q1, .ref q2]) (v := .ref q1) hx hb hts hown hK hP hi 1 (Nat.le_of_ble_eq_true rfl) (hts _ q1308) rfl dX13_by_1 ?_
  refine lv_aload_n hx hb dX13_by_4 rfl (lv_at hl 1 rfl) ?_
  refine bq_callBy (bs := [viB d ca ν, P]) (br := []) (ν := ν) (rest := []) C hkc hks hok hamb hby hq1 q903 (by omega) (by omega) (bq_pm [0, 1] rfl rfl rfl) hl.1 (Nat.le_of_ble_eq_true rfl) dX13_by_5 hP hD hS (fun H locs hP hD hS => ?_)
  obtain ⟨v1, ev1, hf⟩ := bq_lts hf
  refine bq_tope ev1 ?_
  refine lv_istore_n (lv' := [(2, .int v1), (0, .ref q0), (1, .ref (ca 4))]) hx hb dX13_by_8 rfl hl (by decide) rfl (fun ls hl => ?_)
  refine lv_aload_n hx hb dX13_by_9 rfl (lv_at hl 1 rfl) ?_
  refine gX13_get (own := RX13) (fs := [.int act, .ref q1, .ref q2]) (v := .ref q2) hx hb hts hown hK hP hi 2 (Nat.le_of_ble_eq_true rfl) (hts _ q1309) rfl dX13_by_10 ?_
  refine lv_aload_n hx hb dX13_by_13 rfl (lv_at hl 2 rfl) ?_
  refine bq_callBy (bs := [viB d ca ν, P]) (br := []) (ν := ν) (rest := []) C hkc hks hok hamb hby hq2 q903 (by omega) (by omega) (bq_pm [0, 1] rfl rfl rfl) hl.1 (Nat.le_of_ble_eq_true rfl) dX13_by_14 hP hD hS (fun H locs hP hD hS => ?_)
  obtain ⟨v2, ev2, hf⟩ := bq_lts hf
  refine bq_tope ev2 ?_
  refine lv_istore_n (lv' := [(3, .int v2), (2, .int v1), (0, .ref q0), (1, .ref (ca 4))]) hx hb dX13_by_17 rfl hl (by decide) rfl (fun ls hl => ?_)
  refine lv_aload_n hx hb dX13_by_18 rfl (lv_at hl 2 rfl) ?_
  refine gX13_get (own := RX13) (fs := [.int act, .ref q1, .ref q2]) (v := .int act) hx hb hts hown hK hP hi 0 (Nat.le_of_ble_eq_true rfl) (hts _ q1307) rfl dX13_by_19 ?_
  by_cases c3 : act = (38 : Int32)
  · have hf := bq_ip c3 hf
    refine lv_tableIn (off := 156) (tgt := 178) hx hb dX13_by_22 (by rw [c3]; decide) (by rw [c3]; decide) (by rw [c3]; rfl) (by decide) ?_
    refine lv_iload_n hx hb dX13_by_178 rfl (lv_at hl 1 rfl) ?_
    refine lv_if_eq (tgt := 190) hx hb dX13_by_179 (by decide) (fun c4 => ?_) (fun c4 => ?_)
    · have hf := bq_ip c4 hf
      refine lv_iconst (v := (0 : Int32)) hx hb dX13_by_190 (by decide) ?_
      obtain rfl := Option.some.inj hf
      exact bq_iret C hr hP hD hS dX13_by_191
    · have hf := bq_in c4 hf
      refine lv_iload_n hx hb dX13_by_182 rfl (lv_at hl 0 rfl) ?_
      refine lv_if_eq (tgt := 190) hx hb dX13_by_183 (by decide) (fun c5 => ?_) (fun c5 => ?_)
      · have hf := bq_ip c5 hf
        refine lv_iconst (v := (0 : Int32)) hx hb dX13_by_190 (by decide) ?_
        obtain rfl := Option.some.inj hf
        exact bq_iret C hr hP hD hS dX13_by_191
      · have hf := bq_in c5 hf
        refine lv_iconst (v := (1 : Int32)) hx hb dX13_by_186 (by decide) ?_
        refine lv_goto (tgt := 191) hx hb dX13_by_187 (by decide) ?_
        obtain rfl := Option.some.inj hf
        exact bq_iret C hr hP hD hS dX13_by_191
  · have hf := bq_in c3 hf
    by_cases c6 : act = (39 : Int32)
    · have hf := bq_ip c6 hf
      refine lv_tableIn (off := 170) (tgt := 192) hx hb dX13_by_22 (by rw [c6]; decide) (by rw [c6]; decide) (by rw [c6]; rfl) (by decide) ?_
      refine lv_iload_n hx hb dX13_by_192 rfl (lv_at hl 1 rfl) ?_
      refine lv_if_ne (tgt := 200) hx hb dX13_by_193 (by decide) (fun c7 => ?_) (fun c7 => ?_)
      · have hf := bq_in c7 hf
        refine lv_iconst (v := (1 : Int32)) hx hb dX13_by_200 (by decide) ?_
        refine lv_goto (tgt := 205) hx hb dX13_by_201 (by decide) ?_
        obtain rfl := Option.some.inj hf
        exact bq_iret C hr hP hD hS dX13_by_205
      · have hf := bq_ip c7 hf
        refine lv_iload_n hx hb dX13_by_196 rfl (lv_at hl 0 rfl) ?_
        refine lv_if_eq (tgt := 204) hx hb dX13_by_197 (by decide) (fun c8 => ?_) (fun c8 => ?_)
        · have hf := bq_ip c8 hf
          refine lv_iconst (v := (0 : Int32)) hx hb dX13_by_204 (by decide) ?_
          obtain rfl := Option.some.inj hf
          exact bq_iret C hr hP hD hS dX13_by_205
        · have hf := bq_in c8 hf
          refine lv_iconst (v := (1 : Int32)) hx hb dX13_by_200 (by decide) ?_
          refine lv_goto (tgt := 205) hx hb dX13_by_201 (by decide) ?_
          obtain rfl := Option.some.inj hf
          exact bq_iret C hr hP hD hS dX13_by_205
    · have hf := bq_in c6 hf
      by_cases c9 : act = (40 : Int32)
      · have hf := bq_ip c9 hf
        refine lv_tableIn (off := 170) (tgt := 192) hx hb dX13_by_22 (by rw [c9]; decide) (by rw [c9]; decide) (by rw [c9]; rfl) (by decide) ?_
        refine lv_iload_n hx hb dX13_by_192 rfl (lv_at hl 1 rfl) ?_
        refine lv_if_ne (tgt := 200) hx hb dX13_by_193 (by decide) (fun c10 => ?_) (fun c10 => ?_)
        · have hf := bq_in c10 hf
          refine lv_iconst (v := (1 : Int32)) hx hb dX13_by_200 (by decide) ?_
          refine lv_goto (tgt := 205) hx hb dX13_by_201 (by decide) ?_
          obtain rfl := Option.some.inj hf
          exact bq_iret C hr hP hD hS dX13_by_205
        · have hf := bq_ip c10 hf
          refine lv_iload_n hx hb dX13_by_196 rfl (lv_at hl 0 rfl) ?_
          refine lv_if_eq (tgt := 204) hx hb dX13_by_197 (by decide) (fun c11 => ?_) (fun c11 => ?_)
          · have hf := bq_ip c11 hf
            refine lv_iconst (v := (0 : Int32)) hx hb dX13_by_204 (by decide) ?_
            obtain rfl := Option.some.inj hf
            exact bq_iret C hr hP hD hS dX13_by_205
          · have hf := bq_in c11 hf
            refine lv_iconst (v := (1 : Int32)) hx hb dX13_by_200 (by decide) ?_
            refine lv_goto (tgt := 205) hx hb dX13_by_201 (by decide) ?_
            obtain rfl := Option.some.inj hf
            exact bq_iret C hr hP hD hS dX13_by_205
      · have hf := bq_in c9 hf
        by_cases c12 : act = (41 : Int32)
        · have hf := bq_ip c12 hf
          refine lv_tableIn (off := 170) (tgt := 192) hx hb dX13_by_22 (by rw [c12]; decide) (by rw [c12]; decide) (by rw [c12]; rfl) (by decide) ?_
          refine lv_iload_n hx hb dX13_by_192 rfl (lv_at hl 1 rfl) ?_
          refine lv_if_ne (tgt := 200) hx hb dX13_by_193 (by decide) (fun c13 => ?_) (fun c13 => ?_)
          · have hf := bq_in c13 hf
            refine lv_iconst (v := (1 : Int32)) hx hb dX13_by_200 (by decide) ?_
            refine lv_goto (tgt := 205) hx hb dX13_by_201 (by decide) ?_
            obtain rfl := Option.some.inj hf
            exact bq_iret C hr hP hD hS dX13_by_205
          · have hf := bq_ip c13 hf
            refine lv_iload_n hx hb dX13_by_196 rfl (lv_at hl 0 rfl) ?_
            refine lv_if_eq (tgt := 204) hx hb dX13_by_197 (by decide) (fun c14 => ?_) (fun c14 => ?_)
            · have hf := bq_ip c14 hf
              refine lv_iconst (v := (0 : Int32)) hx hb dX13_by_204 (by decide) ?_
              obtain rfl := Option.some.inj hf
              exact bq_iret C hr hP hD hS dX13_by_205
            · have hf := bq_in c14 hf
              refine lv_iconst (v := (1 : Int32)) hx hb dX13_by_200 (by decide) ?_
              refine lv_goto (tgt := 205) hx hb dX13_by_201 (by decide) ?_
              obtain rfl := Option.some.inj hf
              exact bq_iret C hr hP hD hS dX13_by_205
        · have hf := bq_in c12 hf
          by_cases c15 : act = (42 : Int32)
          · have hf := bq_ip c15 hf
            refine lv_tableIn (off := 118) (tgt := 140) hx hb dX13_by_22 (by rw [c15]; decide) (by rw [c15]; decide) (by rw [c15]; rfl) (by decide) ?_
            refine lv_iload_n hx hb dX13_by_140 rfl (lv_at hl 1 rfl) ?_
            refine lv_iload_n hx hb dX13_by_141 rfl (lv_at hl 0 rfl) ?_
            refine lv_imul hx hb dX13_by_142 ?_
            obtain rfl := Option.some.inj hf
            exact bq_iret C hr hP hD hS dX13_by_143
          · have hf := bq_in c15 hf
            by_cases c16 : act = (43 : Int32)
            · have hf := bq_ip c16 hf
              refine lv_tableIn (off := 110) (tgt := 132) hx hb dX13_by_22 (by rw [c16]; decide) (by rw [c16]; decide) (by rw [c16]; rfl) (by decide) ?_
              refine lv_iload_n hx hb dX13_by_132 rfl (lv_at hl 1 rfl) ?_
              refine lv_iload_n hx hb dX13_by_133 rfl (lv_at hl 0 rfl) ?_
              refine lv_iadd hx hb dX13_by_134 ?_
              obtain rfl := Option.some.inj hf
              exact bq_iret C hr hP hD hS dX13_by_135
            · have hf := bq_in c16 hf
              by_cases c17 : act = (44 : Int32)
              · have hf := bq_ip c17 hf
                refine lv_tableIn (off := 170) (tgt := 192) hx hb dX13_by_22 (by rw [c17]; decide) (by rw [c17]; decide) (by rw [c17]; rfl) (by decide) ?_
                refine lv_iload_n hx hb dX13_by_192 rfl (lv_at hl 1 rfl) ?_
                refine lv_if_ne (tgt := 200) hx hb dX13_by_193 (by decide) (fun c18 => ?_) (fun c18 => ?_)
                · have hf := bq_in c18 hf
                  refine lv_iconst (v := (1 : Int32)) hx hb dX13_by_200 (by decide) ?_
                  refine lv_goto (tgt := 205) hx hb dX13_by_201 (by decide) ?_
                  obtain rfl := Option.some.inj hf
                  exact bq_iret C hr hP hD hS dX13_by_205
                · have hf := bq_ip c18 hf
                  refine lv_iload_n hx hb dX13_by_196 rfl (lv_at hl 0 rfl) ?_
                  refine lv_if_eq (tgt := 204) hx hb dX13_by_197 (by decide) (fun c19 => ?_) (fun c19 => ?_)
                  · have hf := bq_ip c19 hf
                    refine lv_iconst (v := (0 : Int32)) hx hb dX13_by_204 (by decide) ?_
                    obtain rfl := Option.some.inj hf
                    exact bq_iret C hr hP hD hS dX13_by_205
                  · have hf := bq_in c19 hf
                    refine lv_iconst (v := (1 : Int32)) hx hb dX13_by_200 (by decide) ?_
                    refine lv_goto (tgt := 205) hx hb dX13_by_201 (by decide) ?_
                    obtain rfl := Option.some.inj hf
                    exact bq_iret C hr hP hD hS dX13_by_205
              · have hf := bq_in c17 hf
                by_cases c20 : act = (45 : Int32)
                · have hf := bq_ip c20 hf
                  refine lv_tableIn (off := 114) (tgt := 136) hx hb dX13_by_22 (by rw [c20]; decide) (by rw [c20]; decide) (by rw [c20]; rfl) (by decide) ?_
                  refine lv_iload_n hx hb dX13_by_136 rfl (lv_at hl 1 rfl) ?_
                  refine lv_iload_n hx hb dX13_by_137 rfl (lv_at hl 0 rfl) ?_
                  refine lv_isub hx hb dX13_by_138 ?_
                  obtain rfl := Option.some.inj hf
                  exact bq_iret C hr hP hD hS dX13_by_139
                · have hf := bq_in c20 hf
                  by_cases c21 : act = (46 : Int32)
                  · have hf := bq_ip c21 hf
                    refine lv_tableIn (off := 170) (tgt := 192) hx hb dX13_by_22 (by rw [c21]; decide) (by rw [c21]; decide) (by rw [c21]; rfl) (by decide) ?_
                    refine lv_iload_n hx hb dX13_by_192 rfl (lv_at hl 1 rfl) ?_
                    refine lv_if_ne (tgt := 200) hx hb dX13_by_193 (by decide) (fun c22 => ?_) (fun c22 => ?_)
                    · have hf := bq_in c22 hf
                      refine lv_iconst (v := (1 : Int32)) hx hb dX13_by_200 (by decide) ?_
                      refine lv_goto (tgt := 205) hx hb dX13_by_201 (by decide) ?_
                      obtain rfl := Option.some.inj hf
                      exact bq_iret C hr hP hD hS dX13_by_205
                    · have hf := bq_ip c22 hf
                      refine lv_iload_n hx hb dX13_by_196 rfl (lv_at hl 0 rfl) ?_
                      refine lv_if_eq (tgt := 204) hx hb dX13_by_197 (by decide) (fun c23 => ?_) (fun c23 => ?_)
                      · have hf := bq_ip c23 hf
                        refine lv_iconst (v := (0 : Int32)) hx hb dX13_by_204 (by decide) ?_
                        obtain rfl := Option.some.inj hf
                        exact bq_iret C hr hP hD hS dX13_by_205
                      · have hf := bq_in c23 hf
                        refine lv_iconst (v := (1 : Int32)) hx hb dX13_by_200 (by decide) ?_
                        refine lv_goto (tgt := 205) hx hb dX13_by_201 (by decide) ?_
                        obtain rfl := Option.some.inj hf
                        exact bq_iret C hr hP hD hS dX13_by_205
                  · have hf := bq_in c21 hf
                    by_cases c24 : act = (47 : Int32)
                    · have hf := bq_ip c24 hf
                      refine lv_tableIn (off := 122) (tgt := 144) hx hb dX13_by_22 (by rw [c24]; decide) (by rw [c24]; decide) (by rw [c24]; rfl) (by decide) ?_
                      refine lv_iload_n hx hb dX13_by_144 rfl (lv_at hl 0 rfl) ?_
                      refine lv_if_ne (tgt := 152) hx hb dX13_by_145 (by decide) (fun c25 => ?_) (fun c25 => ?_)
                      · have hf := bq_in c25 hf
                        refine lv_iload_n hx hb dX13_by_152 rfl (lv_at hl 1 rfl) ?_
                        refine lv_iload_n hx hb dX13_by_153 rfl (lv_at hl 0 rfl) ?_
                        obtain ⟨h26, hf⟩ := bq_nzs hf
                        refine lv_idiv hx hb dX13_by_154 h26 ?_
                        obtain rfl := Option.some.inj hf
                        exact bq_iret C hr hP hD hS dX13_by_155
                      · have hf := bq_ip c25 hf
                        refine lv_iconst (v := (0 : Int32)) hx hb dX13_by_148 (by decide) ?_
                        refine lv_goto (tgt := 155) hx hb dX13_by_149 (by decide) ?_
                        obtain rfl := Option.some.inj hf
                        exact bq_iret C hr hP hD hS dX13_by_155
                    · have hf := bq_in c24 hf
                      by_cases c27 : act = (48 : Int32)
                      · have hf := bq_ip c27 hf
                        refine lv_tableIn (off := 170) (tgt := 192) hx hb dX13_by_22 (by rw [c27]; decide) (by rw [c27]; decide) (by rw [c27]; rfl) (by decide) ?_
                        refine lv_iload_n hx hb dX13_by_192 rfl (lv_at hl 1 rfl) ?_
                        refine lv_if_ne (tgt := 200) hx hb dX13_by_193 (by decide) (fun c28 => ?_) (fun c28 => ?_)
                        · have hf := bq_in c28 hf
                          refine lv_iconst (v := (1 : Int32)) hx hb dX13_by_200 (by decide) ?_
                          refine lv_goto (tgt := 205) hx hb dX13_by_201 (by decide) ?_
                          obtain rfl := Option.some.inj hf
                          exact bq_iret C hr hP hD hS dX13_by_205
                        · have hf := bq_ip c28 hf
                          refine lv_iload_n hx hb dX13_by_196 rfl (lv_at hl 0 rfl) ?_
                          refine lv_if_eq (tgt := 204) hx hb dX13_by_197 (by decide) (fun c29 => ?_) (fun c29 => ?_)
                          · have hf := bq_ip c29 hf
                            refine lv_iconst (v := (0 : Int32)) hx hb dX13_by_204 (by decide) ?_
                            obtain rfl := Option.some.inj hf
                            exact bq_iret C hr hP hD hS dX13_by_205
                          · have hf := bq_in c29 hf
                            refine lv_iconst (v := (1 : Int32)) hx hb dX13_by_200 (by decide) ?_
                            refine lv_goto (tgt := 205) hx hb dX13_by_201 (by decide) ?_
                            obtain rfl := Option.some.inj hf
                            exact bq_iret C hr hP hD hS dX13_by_205
                      · have hf := bq_in c27 hf
                        by_cases c30 : act = (49 : Int32)
                        · have hf := bq_ip c30 hf
                          refine lv_tableIn (off := 170) (tgt := 192) hx hb dX13_by_22 (by rw [c30]; decide) (by rw [c30]; decide) (by rw [c30]; rfl) (by decide) ?_
                          refine lv_iload_n hx hb dX13_by_192 rfl (lv_at hl 1 rfl) ?_
                          refine lv_if_ne (tgt := 200) hx hb dX13_by_193 (by decide) (fun c31 => ?_) (fun c31 => ?_)
                          · have hf := bq_in c31 hf
                            refine lv_iconst (v := (1 : Int32)) hx hb dX13_by_200 (by decide) ?_
                            refine lv_goto (tgt := 205) hx hb dX13_by_201 (by decide) ?_
                            obtain rfl := Option.some.inj hf
                            exact bq_iret C hr hP hD hS dX13_by_205
                          · have hf := bq_ip c31 hf
                            refine lv_iload_n hx hb dX13_by_196 rfl (lv_at hl 0 rfl) ?_
                            refine lv_if_eq (tgt := 204) hx hb dX13_by_197 (by decide) (fun c32 => ?_) (fun c32 => ?_)
                            · have hf := bq_ip c32 hf
                              refine lv_iconst (v := (0 : Int32)) hx hb dX13_by_204 (by decide) ?_
                              obtain rfl := Option.some.inj hf
                              exact bq_iret C hr hP hD hS dX13_by_205
                            · have hf := bq_in c32 hf
                              refine lv_iconst (v := (1 : Int32)) hx hb dX13_by_200 (by decide) ?_
                              refine lv_goto (tgt := 205) hx hb dX13_by_201 (by decide) ?_
                              obtain rfl := Option.some.inj hf
                              exact bq_iret C hr hP hD hS dX13_by_205
                        · have hf := bq_in c30 hf
                          by_cases c33 : act = (50 : Int32)
                          · have hf := bq_ip c33 hf
                            refine lv_tableIn (off := 170) (tgt := 192) hx hb dX13_by_22 (by rw [c33]; decide) (by rw [c33]; decide) (by rw [c33]; rfl) (by decide) ?_
                            refine lv_iload_n hx hb dX13_by_192 rfl (lv_at hl 1 rfl) ?_
                            refine lv_if_ne (tgt := 200) hx hb dX13_by_193 (by decide) (fun c34 => ?_) (fun c34 => ?_)
                            · have hf := bq_in c34 hf
                              refine lv_iconst (v := (1 : Int32)) hx hb dX13_by_200 (by decide) ?_
                              refine lv_goto (tgt := 205) hx hb dX13_by_201 (by decide) ?_
                              obtain rfl := Option.some.inj hf
                              exact bq_iret C hr hP hD hS dX13_by_205
                            · have hf := bq_ip c34 hf
                              refine lv_iload_n hx hb dX13_by_196 rfl (lv_at hl 0 rfl) ?_
                              refine lv_if_eq (tgt := 204) hx hb dX13_by_197 (by decide) (fun c35 => ?_) (fun c35 => ?_)
                              · have hf := bq_ip c35 hf
                                refine lv_iconst (v := (0 : Int32)) hx hb dX13_by_204 (by decide) ?_
                                obtain rfl := Option.some.inj hf
                                exact bq_iret C hr hP hD hS dX13_by_205
                              · have hf := bq_in c35 hf
                                refine lv_iconst (v := (1 : Int32)) hx hb dX13_by_200 (by decide) ?_
                                refine lv_goto (tgt := 205) hx hb dX13_by_201 (by decide) ?_
                                obtain rfl := Option.some.inj hf
                                exact bq_iret C hr hP hD hS dX13_by_205
                          · have hf := bq_in c33 hf
                            by_cases c36 : act = (51 : Int32)
                            · have hf := bq_ip c36 hf
                              refine lv_tableIn (off := 170) (tgt := 192) hx hb dX13_by_22 (by rw [c36]; decide) (by rw [c36]; decide) (by rw [c36]; rfl) (by decide) ?_
                              refine lv_iload_n hx hb dX13_by_192 rfl (lv_at hl 1 rfl) ?_
                              refine lv_if_ne (tgt := 200) hx hb dX13_by_193 (by decide) (fun c37 => ?_) (fun c37 => ?_)
                              · have hf := bq_in c37 hf
                                refine lv_iconst (v := (1 : Int32)) hx hb dX13_by_200 (by decide) ?_
                                refine lv_goto (tgt := 205) hx hb dX13_by_201 (by decide) ?_
                                obtain rfl := Option.some.inj hf
                                exact bq_iret C hr hP hD hS dX13_by_205
                              · have hf := bq_ip c37 hf
                                refine lv_iload_n hx hb dX13_by_196 rfl (lv_at hl 0 rfl) ?_
                                refine lv_if_eq (tgt := 204) hx hb dX13_by_197 (by decide) (fun c38 => ?_) (fun c38 => ?_)
                                · have hf := bq_ip c38 hf
                                  refine lv_iconst (v := (0 : Int32)) hx hb dX13_by_204 (by decide) ?_
                                  obtain rfl := Option.some.inj hf
                                  exact bq_iret C hr hP hD hS dX13_by_205
                                · have hf := bq_in c38 hf
                                  refine lv_iconst (v := (1 : Int32)) hx hb dX13_by_200 (by decide) ?_
                                  refine lv_goto (tgt := 205) hx hb dX13_by_201 (by decide) ?_
                                  obtain rfl := Option.some.inj hf
                                  exact bq_iret C hr hP hD hS dX13_by_205
                            · have hf := bq_in c36 hf
                              by_cases c39 : act = (52 : Int32)
                              · have hf := bq_ip c39 hf
                                refine lv_tableIn (off := 170) (tgt := 192) hx hb dX13_by_22 (by rw [c39]; decide) (by rw [c39]; decide) (by rw [c39]; rfl) (by decide) ?_
                                refine lv_iload_n hx hb dX13_by_192 rfl (lv_at hl 1 rfl) ?_
                                refine lv_if_ne (tgt := 200) hx hb dX13_by_193 (by decide) (fun c40 => ?_) (fun c40 => ?_)
                                · have hf := bq_in c40 hf
                                  refine lv_iconst (v := (1 : Int32)) hx hb dX13_by_200 (by decide) ?_
                                  refine lv_goto (tgt := 205) hx hb dX13_by_201 (by decide) ?_
                                  obtain rfl := Option.some.inj hf
                                  exact bq_iret C hr hP hD hS dX13_by_205
                                · have hf := bq_ip c40 hf
                                  refine lv_iload_n hx hb dX13_by_196 rfl (lv_at hl 0 rfl) ?_
                                  refine lv_if_eq (tgt := 204) hx hb dX13_by_197 (by decide) (fun c41 => ?_) (fun c41 => ?_)
                                  · have hf := bq_ip c41 hf
                                    refine lv_iconst (v := (0 : Int32)) hx hb dX13_by_204 (by decide) ?_
                                    obtain rfl := Option.some.inj hf
                                    exact bq_iret C hr hP hD hS dX13_by_205
                                  · have hf := bq_in c41 hf
                                    refine lv_iconst (v := (1 : Int32)) hx hb dX13_by_200 (by decide) ?_
                                    refine lv_goto (tgt := 205) hx hb dX13_by_201 (by decide) ?_
                                    obtain rfl := Option.some.inj hf
                                    exact bq_iret C hr hP hD hS dX13_by_205
                              · have hf := bq_in c39 hf
                                by_cases c42 : act = (53 : Int32)
                                · have hf := bq_ip c42 hf
                                  refine lv_tableIn (off := 170) (tgt := 192) hx hb dX13_by_22 (by rw [c42]; decide) (by rw [c42]; decide) (by rw [c42]; rfl) (by decide) ?_
                                  refine lv_iload_n hx hb dX13_by_192 rfl (lv_at hl 1 rfl) ?_
                                  refine lv_if_ne (tgt := 200) hx hb dX13_by_193 (by decide) (fun c43 => ?_) (fun c43 => ?_)
                                  · have hf := bq_in c43 hf
                                    refine lv_iconst (v := (1 : Int32)) hx hb dX13_by_200 (by decide) ?_
                                    refine lv_goto (tgt := 205) hx hb dX13_by_201 (by decide) ?_
                                    obtain rfl := Option.some.inj hf
                                    exact bq_iret C hr hP hD hS dX13_by_205
                                  · have hf := bq_ip c43 hf
                                    refine lv_iload_n hx hb dX13_by_196 rfl (lv_at hl 0 rfl) ?_
                                    refine lv_if_eq (tgt := 204) hx hb dX13_by_197 (by decide) (fun c44 => ?_) (fun c44 => ?_)
                                    · have hf := bq_ip c44 hf
                                      refine lv_iconst (v := (0 : Int32)) hx hb dX13_by_204 (by decide) ?_
                                      obtain rfl := Option.some.inj hf
                                      exact bq_iret C hr hP hD hS dX13_by_205
                                    · have hf := bq_in c44 hf
                                      refine lv_iconst (v := (1 : Int32)) hx hb dX13_by_200 (by decide) ?_
                                      refine lv_goto (tgt := 205) hx hb dX13_by_201 (by decide) ?_
                                      obtain rfl := Option.some.inj hf
                                      exact bq_iret C hr hP hD hS dX13_by_205
                                · have hf := bq_in c42 hf
                                  by_cases c45 : act = (54 : Int32)
                                  · have hf := bq_ip c45 hf
                                    refine lv_tableIn (off := 170) (tgt := 192) hx hb dX13_by_22 (by rw [c45]; decide) (by rw [c45]; decide) (by rw [c45]; rfl) (by decide) ?_
                                    refine lv_iload_n hx hb dX13_by_192 rfl (lv_at hl 1 rfl) ?_
                                    refine lv_if_ne (tgt := 200) hx hb dX13_by_193 (by decide) (fun c46 => ?_) (fun c46 => ?_)
                                    · have hf := bq_in c46 hf
                                      refine lv_iconst (v := (1 : Int32)) hx hb dX13_by_200 (by decide) ?_
                                      refine lv_goto (tgt := 205) hx hb dX13_by_201 (by decide) ?_
                                      obtain rfl := Option.some.inj hf
                                      exact bq_iret C hr hP hD hS dX13_by_205
                                    · have hf := bq_ip c46 hf
                                      refine lv_iload_n hx hb dX13_by_196 rfl (lv_at hl 0 rfl) ?_
                                      refine lv_if_eq (tgt := 204) hx hb dX13_by_197 (by decide) (fun c47 => ?_) (fun c47 => ?_)
                                      · have hf := bq_ip c47 hf
                                        refine lv_iconst (v := (0 : Int32)) hx hb dX13_by_204 (by decide) ?_
                                        obtain rfl := Option.some.inj hf
                                        exact bq_iret C hr hP hD hS dX13_by_205
                                      · have hf := bq_in c47 hf
                                        refine lv_iconst (v := (1 : Int32)) hx hb dX13_by_200 (by decide) ?_
                                        refine lv_goto (tgt := 205) hx hb dX13_by_201 (by decide) ?_
                                        obtain rfl := Option.some.inj hf
                                        exact bq_iret C hr hP hD hS dX13_by_205
                                  · have hf := bq_in c45 hf
                                    by_cases c48 : act = (55 : Int32)
                                    · have hf := bq_ip c48 hf
                                      refine lv_tableIn (off := 170) (tgt := 192) hx hb dX13_by_22 (by rw [c48]; decide) (by rw [c48]; decide) (by rw [c48]; rfl) (by decide) ?_
                                      refine lv_iload_n hx hb dX13_by_192 rfl (lv_at hl 1 rfl) ?_
                                      refine lv_if_ne (tgt := 200) hx hb dX13_by_193 (by decide) (fun c49 => ?_) (fun c49 => ?_)
                                      · have hf := bq_in c49 hf
                                        refine lv_iconst (v := (1 : Int32)) hx hb dX13_by_200 (by decide) ?_
                                        refine lv_goto (tgt := 205) hx hb dX13_by_201 (by decide) ?_
                                        obtain rfl := Option.some.inj hf
                                        exact bq_iret C hr hP hD hS dX13_by_205
                                      · have hf := bq_ip c49 hf
                                        refine lv_iload_n hx hb dX13_by_196 rfl (lv_at hl 0 rfl) ?_
                                        refine lv_if_eq (tgt := 204) hx hb dX13_by_197 (by decide) (fun c50 => ?_) (fun c50 => ?_)
                                        · have hf := bq_ip c50 hf
                                          refine lv_iconst (v := (0 : Int32)) hx hb dX13_by_204 (by decide) ?_
                                          obtain rfl := Option.some.inj hf
                                          exact bq_iret C hr hP hD hS dX13_by_205
                                        · have hf := bq_in c50 hf
                                          refine lv_iconst (v := (1 : Int32)) hx hb dX13_by_200 (by decide) ?_
                                          refine lv_goto (tgt := 205) hx hb dX13_by_201 (by decide) ?_
                                          obtain rfl := Option.some.inj hf
                                          exact bq_iret C hr hP hD hS dX13_by_205
                                    · have hf := bq_in c48 hf
                                      by_cases c51 : act = (56 : Int32)
                                      · have hf := bq_ip c51 hf
                                        refine lv_tableIn (off := 170) (tgt := 192) hx hb dX13_by_22 (by rw [c51]; decide) (by rw [c51]; decide) (by rw [c51]; rfl) (by decide) ?_
                                        refine lv_iload_n hx hb dX13_by_192 rfl (lv_at hl 1 rfl) ?_
                                        refine lv_if_ne (tgt := 200) hx hb dX13_by_193 (by decide) (fun c52 => ?_) (fun c52 => ?_)
                                        · have hf := bq_in c52 hf
                                          refine lv_iconst (v := (1 : Int32)) hx hb dX13_by_200 (by decide) ?_
                                          refine lv_goto (tgt := 205) hx hb dX13_by_201 (by decide) ?_
                                          obtain rfl := Option.some.inj hf
                                          exact bq_iret C hr hP hD hS dX13_by_205
                                        · have hf := bq_ip c52 hf
                                          refine lv_iload_n hx hb dX13_by_196 rfl (lv_at hl 0 rfl) ?_
                                          refine lv_if_eq (tgt := 204) hx hb dX13_by_197 (by decide) (fun c53 => ?_) (fun c53 => ?_)
                                          · have hf := bq_ip c53 hf
                                            refine lv_iconst (v := (0 : Int32)) hx hb dX13_by_204 (by decide) ?_
                                            obtain rfl := Option.some.inj hf
                                            exact bq_iret C hr hP hD hS dX13_by_205
                                          · have hf := bq_in c53 hf
                                            refine lv_iconst (v := (1 : Int32)) hx hb dX13_by_200 (by decide) ?_
                                            refine lv_goto (tgt := 205) hx hb dX13_by_201 (by decide) ?_
                                            obtain rfl := Option.some.inj hf
                                            exact bq_iret C hr hP hD hS dX13_by_205
                                      · have hf := bq_in c51 hf
                                        by_cases c54 : act = (57 : Int32)
                                        · have hf := bq_ip c54 hf
                                          refine lv_tableIn (off := 170) (tgt := 192) hx hb dX13_by_22 (by rw [c54]; decide) (by rw [c54]; decide) (by rw [c54]; rfl) (by decide) ?_
                                          refine lv_iload_n hx hb dX13_by_192 rfl (lv_at hl 1 rfl) ?_
                                          refine lv_if_ne (tgt := 200) hx hb dX13_by_193 (by decide) (fun c55 => ?_) (fun c55 => ?_)
                                          · have hf := bq_in c55 hf
                                            refine lv_iconst (v := (1 : Int32)) hx hb dX13_by_200 (by decide) ?_
                                            refine lv_goto (tgt := 205) hx hb dX13_by_201 (by decide) ?_
                                            obtain rfl := Option.some.inj hf
                                            exact bq_iret C hr hP hD hS dX13_by_205
                                          · have hf := bq_ip c55 hf
                                            refine lv_iload_n hx hb dX13_by_196 rfl (lv_at hl 0 rfl) ?_
                                            refine lv_if_eq (tgt := 204) hx hb dX13_by_197 (by decide) (fun c56 => ?_) (fun c56 => ?_)
                                            · have hf := bq_ip c56 hf
                                              refine lv_iconst (v := (0 : Int32)) hx hb dX13_by_204 (by decide) ?_
                                              obtain rfl := Option.some.inj hf
                                              exact bq_iret C hr hP hD hS dX13_by_205
                                            · have hf := bq_in c56 hf
                                              refine lv_iconst (v := (1 : Int32)) hx hb dX13_by_200 (by decide) ?_
                                              refine lv_goto (tgt := 205) hx hb dX13_by_201 (by decide) ?_
                                              obtain rfl := Option.some.inj hf
                                              exact bq_iret C hr hP hD hS dX13_by_205
                                        · have hf := bq_in c54 hf
                                          by_cases c57 : act = (58 : Int32)
                                          · have hf := bq_ip c57 hf
                                            refine lv_tableIn (off := 170) (tgt := 192) hx hb dX13_by_22 (by rw [c57]; decide) (by rw [c57]; decide) (by rw [c57]; rfl) (by decide) ?_
                                            refine lv_iload_n hx hb dX13_by_192 rfl (lv_at hl 1 rfl) ?_
                                            refine lv_if_ne (tgt := 200) hx hb dX13_by_193 (by decide) (fun c58 => ?_) (fun c58 => ?_)
                                            · have hf := bq_in c58 hf
                                              refine lv_iconst (v := (1 : Int32)) hx hb dX13_by_200 (by decide) ?_
                                              refine lv_goto (tgt := 205) hx hb dX13_by_201 (by decide) ?_
                                              obtain rfl := Option.some.inj hf
                                              exact bq_iret C hr hP hD hS dX13_by_205
                                            · have hf := bq_ip c58 hf
                                              refine lv_iload_n hx hb dX13_by_196 rfl (lv_at hl 0 rfl) ?_
                                              refine lv_if_eq (tgt := 204) hx hb dX13_by_197 (by decide) (fun c59 => ?_) (fun c59 => ?_)
                                              · have hf := bq_ip c59 hf
                                                refine lv_iconst (v := (0 : Int32)) hx hb dX13_by_204 (by decide) ?_
                                                obtain rfl := Option.some.inj hf
                                                exact bq_iret C hr hP hD hS dX13_by_205
                                              · have hf := bq_in c59 hf
                                                refine lv_iconst (v := (1 : Int32)) hx hb dX13_by_200 (by decide) ?_
                                                refine lv_goto (tgt := 205) hx hb dX13_by_201 (by decide) ?_
                                                obtain rfl := Option.some.inj hf
                                                exact bq_iret C hr hP hD hS dX13_by_205
                                          · have hf := bq_in c57 hf
                                            by_cases c60 : act = (59 : Int32)
                                            · have hf := bq_ip c60 hf
                                              refine lv_tableIn (off := 170) (tgt := 192) hx hb dX13_by_22 (by rw [c60]; decide) (by rw [c60]; decide) (by rw [c60]; rfl) (by decide) ?_
                                              refine lv_iload_n hx hb dX13_by_192 rfl (lv_at hl 1 rfl) ?_
                                              refine lv_if_ne (tgt := 200) hx hb dX13_by_193 (by decide) (fun c61 => ?_) (fun c61 => ?_)
                                              · have hf := bq_in c61 hf
                                                refine lv_iconst (v := (1 : Int32)) hx hb dX13_by_200 (by decide) ?_
                                                refine lv_goto (tgt := 205) hx hb dX13_by_201 (by decide) ?_
                                                obtain rfl := Option.some.inj hf
                                                exact bq_iret C hr hP hD hS dX13_by_205
                                              · have hf := bq_ip c61 hf
                                                refine lv_iload_n hx hb dX13_by_196 rfl (lv_at hl 0 rfl) ?_
                                                refine lv_if_eq (tgt := 204) hx hb dX13_by_197 (by decide) (fun c62 => ?_) (fun c62 => ?_)
                                                · have hf := bq_ip c62 hf
                                                  refine lv_iconst (v := (0 : Int32)) hx hb dX13_by_204 (by decide) ?_
                                                  obtain rfl := Option.some.inj hf
                                                  exact bq_iret C hr hP hD hS dX13_by_205
                                                · have hf := bq_in c62 hf
                                                  refine lv_iconst (v := (1 : Int32)) hx hb dX13_by_200 (by decide) ?_
                                                  refine lv_goto (tgt := 205) hx hb dX13_by_201 (by decide) ?_
                                                  obtain rfl := Option.some.inj hf
                                                  exact bq_iret C hr hP hD hS dX13_by_205
                                            · have hf := bq_in c60 hf
                                              by_cases c63 : act = (60 : Int32)
                                              · have hf := bq_ip c63 hf
                                                refine lv_tableIn (off := 134) (tgt := 156) hx hb dX13_by_22 (by rw [c63]; decide) (by rw [c63]; decide) (by rw [c63]; rfl) (by decide) ?_
                                                refine lv_iload_n hx hb dX13_by_156 rfl (lv_at hl 1 rfl) ?_
                                                refine lv_iload_n hx hb dX13_by_157 rfl (lv_at hl 0 rfl) ?_
                                                refine lv_icmp_ge (tgt := 165) hx hb dX13_by_158 (by decide) (fun c64 => ?_) (fun c64 => ?_)
                                                · have hf := bq_ip c64 hf
                                                  refine lv_iconst (v := (0 : Int32)) hx hb dX13_by_165 (by decide) ?_
                                                  obtain rfl := Option.some.inj hf
                                                  exact bq_iret C hr hP hD hS dX13_by_166
                                                · have hf := bq_in c64 hf
                                                  refine lv_iconst (v := (1 : Int32)) hx hb dX13_by_161 (by decide) ?_
                                                  refine lv_goto (tgt := 166) hx hb dX13_by_162 (by decide) ?_
                                                  obtain rfl := Option.some.inj hf
                                                  exact bq_iret C hr hP hD hS dX13_by_166
                                              · have hf := bq_in c63 hf
                                                by_cases c65 : act = (61 : Int32)
                                                · have hf := bq_ip c65 hf
                                                  refine lv_tableIn (off := 145) (tgt := 167) hx hb dX13_by_22 (by rw [c65]; decide) (by rw [c65]; decide) (by rw [c65]; rfl) (by decide) ?_
                                                  refine lv_iload_n hx hb dX13_by_167 rfl (lv_at hl 1 rfl) ?_
                                                  refine lv_iload_n hx hb dX13_by_168 rfl (lv_at hl 0 rfl) ?_
                                                  refine lv_icmp_ne (tgt := 176) hx hb dX13_by_169 (by decide) (fun c66 => ?_) (fun c66 => ?_)
                                                  · have hf := bq_in c66 hf
                                                    refine lv_iconst (v := (0 : Int32)) hx hb dX13_by_176 (by decide) ?_
                                                    obtain rfl := Option.some.inj hf
                                                    exact bq_iret C hr hP hD hS dX13_by_177
                                                  · have hf := bq_ip c66 hf
                                                    refine lv_iconst (v := (1 : Int32)) hx hb dX13_by_172 (by decide) ?_
                                                    refine lv_goto (tgt := 177) hx hb dX13_by_173 (by decide) ?_
                                                    obtain rfl := Option.some.inj hf
                                                    exact bq_iret C hr hP hD hS dX13_by_177
                                                · have hf := bq_in c65 hf
                                                  refine lv_tableOut (tgt := 192) hx hb dX13_by_22 (bq_tout (lo := 38) (n := 24) (by decide) (lt_s (lt_s (lt_s (lt_s (lt_s (lt_s (lt_s (lt_s (lt_s (lt_s (lt_s (lt_s (lt_s (lt_s (lt_s (lt_s (lt_s (lt_s (lt_s (lt_s (lt_s (lt_s (lt_s (lt_s lt_0 (lv_neT c3 (by decide))) (lv_neT c6 (by decide))) (lv_neT c9 (by decide))) (lv_neT c12 (by decide))) (lv_neT c15 (by decide))) (lv_neT c16 (by decide))) (lv_neT c17 (by decide))) (lv_neT c20 (by decide))) (lv_neT c21 (by decide))) (lv_neT c24 (by decide))) (lv_neT c27 (by decide))) (lv_neT c30 (by decide))) (lv_neT c33 (by decide))) (lv_neT c36 (by decide))) (lv_neT c39 (by decide))) (lv_neT c42 (by decide))) (lv_neT c45 (by decide))) (lv_neT c48 (by decide))) (lv_neT c51 (by decide))) (lv_neT c54 (by decide))) (lv_neT c57 (by decide))) (lv_neT c60 (by decide))) (lv_neT c63 (by decide))) (lv_neT c65 (by decide)))) (by decide) ?_
                                                  refine lv_iload_n hx hb dX13_by_192 rfl (lv_at hl 1 rfl) ?_
                                                  refine lv_if_ne (tgt := 200) hx hb dX13_by_193 (by decide) (fun c67 => ?_) (fun c67 => ?_)
                                                  · have hf := bq_in c67 hf
                                                    refine lv_iconst (v := (1 : Int32)) hx hb dX13_by_200 (by decide) ?_
                                                    refine lv_goto (tgt := 205) hx hb dX13_by_201 (by decide) ?_
                                                    obtain rfl := Option.some.inj hf
                                                    exact bq_iret C hr hP hD hS dX13_by_205
                                                  · have hf := bq_ip c67 hf
                                                    refine lv_iload_n hx hb dX13_by_196 rfl (lv_at hl 0 rfl) ?_
                                                    refine lv_if_eq (tgt := 204) hx hb dX13_by_197 (by decide) (fun c68 => ?_) (fun c68 => ?_)
                                                    · have hf := bq_ip c68 hf
                                                      refine lv_iconst (v := (0 : Int32)) hx hb dX13_by_204 (by decide) ?_
                                                      obtain rfl := Option.some.inj hf
                                                      exact bq_iret C hr hP hD hS dX13_by_205
                                                    · have hf := bq_in c68 hf
                                                      refine lv_iconst (v := (1 : Int32)) hx hb dX13_by_200 (by decide) ?_
                                                      refine lv_goto (tgt := 205) hx hb dX13_by_201 (by decide) ?_
                                                      obtain rfl := Option.some.inj hf
                                                      exact bq_iret C hr hP hD hS dX13_by_205
