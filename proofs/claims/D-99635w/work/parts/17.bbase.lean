set_option maxRecDepth 100000
/-- BlueBag (addresses ba: 0 itself, 1 tape, 2 fewest, 3 where, 4 five, 5 fives); row 0 its ints by field -/
def bbF (ba ca na ta ka ia : Nat → Nat) (β : bqS) : List Value := [.ref (ca 0), .ref (ka 0), .ref (ia 0), .ref (na 0), .ref (ta 0), .int (β 0 5), .ref (ba 1), .int (β 0 7), .int (β 0 8), .ref (ba 2), .ref (ba 3), .ref (ba 4), .ref (ba 5), .int (β 0 13)]
def bbB (d : Nat → ClassId) (ba ca na ta ka ia : Nat → Nat) (β : bqS) : va_W := [(ba 0, .inr (1, bbF ba ca na ta ka ia β)), (ba 1, .inl (d 2, 700, .inl (β 1))), (ba 2, .inl (d 0, 448, .inl (β 2))), (ba 3, .inl (d 0, 6, .inl (β 3))), (ba 4, .inl (d 0, 30, .inl (β 4))), (ba 5, .inl (d 0, 1800, .inl (β 5)))]
/-- Book (addresses ka: 0 itself, 1 cell, 2 when, 3 blue, 4 refused, 5 its list, 6 the list's array); row 0 its ints by field -/
def bkF (ka na : Nat → Nat) (μ : bqS) : List Value := [.ref (na 0), .ref (ka 5), .ref (ka 1), .ref (ka 2), .ref (ka 3), .ref (ka 4), .int (μ 0 6), .int (μ 0 7)]
def bkB (d : Nat → ClassId) (ka na : Nat → Nat) (μ : bqS) : va_W := [(ka 0, .inr (4, bkF ka na μ)), (ka 1, .inl (d 0, 8, .inl (μ 1))), (ka 2, .inl (d 0, 8, .inl (μ 2))), (ka 3, .inl (d 0, 8, .inl (μ 3))), (ka 4, .inl (d 0, 3, .inl (μ 4)))]
section BQB
variable {p : Program} {l : Launch} {e : Env} {R : Room} {s : State} {m : MethodId} {args : Array Value} {below : List Frame} {meth : Method} {c : Code} {H : Heap} {locs : List Loc} {Q : State → Prop} {A : Nat → Prop} {D : va_G} {cl : List vw_C} {tys : List (ClassId × FieldType)} {am : bqAm} {cc : ByteArray} {nL NF NL pc kc ks : Nat} {own : String} {ls : Array Slot} {rest : List Value} {w : va_W} {X vE sE ca : Nat → Nat} {d : Nat → ClassId} {index n k : Nat} {κ : bqS}
theorem met_girl_isOld {q : Nat} (hok : bq_Ok am) : bq_M l yX15_isOld cX15_isOld 1 (some .boolean) 0 0 D cl tys am [.ref q] w (some (.int 0)) w := by
  refine bq_of hok (by decide +kernel) (Nat.le_of_ble_eq_true rfl) ?_
  intro p e s m below meth c A ls C hr hP hD hS hl
  have C0 := C
  obtain ⟨hx, hb, hown, hts, hml, hlocks, hA, hK, hm, hRf, hRl, hok⟩ := C
  refine lv_iconst (v := 0) hx hb dX15_isOld_0 (by decide) ?_
  exact bq_zret C0 hr (by decide) hP hD hS dX15_isOld_1
theorem met_old_isOld {q i0 : Nat} {fs : List Value} (hok : bq_Ok am) (hi : w[i0]? = some (q, .inr (13, fs))) : bq_M l yX16_isOld cX16_isOld 1 (some .boolean) 1 20 D bqCl (bqTy d) am [.ref q] w (some (.int 1)) w := by
  refine bq_of hok (by decide +kernel) (Nat.le_of_ble_eq_true rfl) ?_
  intro p e s m below meth c A ls C hr hP hD hS hl
  have C0 := C
  obtain ⟨hx, hb, hown, hts, hml, hlocks, hA, hK, hm, hRf, hRl, hok⟩ := C
  have hl : lv_has ls 1 [(0, .ref q)] := hl
  refine lv_aload_n hx hb dX16_isOld_0 rfl (lv_at hl 0 rfl) ?_
  have cw := va_cwSU (own := RX16) (index := 22) (y := yX15_isOld) (bytes := cX15_isOld) (maxL := 1) (ret := some .boolean) (rm := { frames := 0, cells := 0, slots := 0, locals := 0 }) (mc := 0) (ms := 0) (R := { frames := 1, cells := 0, slots := 0, locals := 20 }) 0 hts (lw_app (bq_l5 q1458 q1454 q1377 q1452 q149) (lw_meth q1459)) rfl rfl rfl (by decide +kernel) ⟨Nat.le_refl _, Nat.le_refl _⟩
  refine bq_fin2 (o := some (.int 0)) (w := w) (w' := w) (wr := []) (kc := 0) (ks := 0) (va_runSU (C := RX16) (As := []) (rest := []) (hK.1 13 _ rfl).2 ⟨hx, hb, hml, hown, hts⟩ (met_girl_isOld hok s.heap.size) cw ⟨bq_blind hok, va_recv hK hP (ci := 13) (q0 := i0) rfl hi, fun U hU hW => bq_pre C0 hP hD hS bq_pn hU hW⟩ rfl rfl hl.1 rfl (lv_room (Nat.le_of_ble_eq_true rfl)) dX16_isOld_1 ⟨Nat.zero_le _, Nat.zero_le _⟩) hA hP hD hS bq_pn (fun H locs hP hD hS => ?_)
  rw [List.append_nil] at hP hD
  refine lv_if_ne (tgt := 11) hx hb dX16_isOld_4 (by decide) (fun c1 => absurd rfl c1) (fun c1 => ?_)
  refine lv_iconst (v := 1) hx hb dX16_isOld_7 (by decide) ?_
  refine lv_goto (tgt := 12) hx hb dX16_isOld_8 (by decide) ?_
  exact bq_zret C0 hr (by decide) hP hD hS dX16_isOld_12
theorem gi_isOld {bs : List va_W} (C : bq_C p R s m args meth c A D bqCl (bqTy d) am cc nL own NF NL) (hkc : kc ≤ R.cells) (hks : ks ≤ R.slots) (hok : bq_Ok am) (hamb : bq_Amb am X vE sE) (hw : ∀ q ∈ giB ca n κ, q ∈ bs.flatten) (hk : k < n) (hlink : Cond.methodLink own index yX15_isOld ∈ lw_all) (hNF : 2 ≤ NF) (hNL : 40 ≤ NL)
    (hls : ls.size = nL) (hc8 : (rest.map fun v => v.category).sum ≤ 8) (hdg : decode cc pc = .ok (.invokevirtual index, 3))
    (hP : va_P D bqCl bs.flatten H) (hD : va_D A bs.flatten) (hS : va_S A s.heap H locs)
    (kk : ∀ (H1 : Heap) (locs1 : List Loc), va_P D bqCl bs.flatten H1 → va_D A bs.flatten → va_S A s.heap H1 locs1 → W p l e R s m args below meth c H1 locs1 kc ks Q (F0 m (pc + 3) ls (.int (if κ 4 k = 0 then 0 else 1) :: rest))) : W p l e R s m args below meth c H locs kc ks Q (F0 m pc ls (.ref (ca (10 + k)) :: rest)) := by
  have C0 := C
  obtain ⟨hx, hb, hown, hts, hml, hlocks, hA, hK, hm, hRf, hRl, -⟩ := C
  have hr := gi_recv (κ := κ) hK hP hw hk
  obtain ⟨i, hi⟩ := List.getElem?_of_mem (hw _ (gi_mem (κ := κ) (ca := ca) hk))
  unfold giC at hi
  by_cases hz : κ 4 k = 0
  · rw [if_pos hz] at kk
    exact bq_cV (bs := bs) (bc := bs) (br := []) (bc' := bs) (bs' := bs) (As := []) (rest := rest) (o := some (.int 0)) C0 hkc hks (met_girl_isOld hok) (by rw [List.append_nil]) (by rw [List.append_nil]) (lw_V hlink q1452 q1453 q149 q1459) (by decide +kernel) (by omega) (by omega) (hr.1 hz) rfl hls rfl hc8 hdg hP hD hS kk
  · rw [if_neg hz] at kk
    rw [if_neg hz] at hi
    exact bq_cU (bs := bs) (bc := bs) (br := []) (bc' := bs) (bs' := bs) (As := []) (rest := rest) (o := some (.int 1)) C0 hkc hks (met_old_isOld hok hi) (by rw [List.append_nil]) (by rw [List.append_nil])
      (va_cwO (own := own) (C := RX16) (owner := RX15) (x := yX15_isOld) (y := yX16_isOld) 0 hts (lw_app (bq_l6 hlink q1454 q1452 q1455 q1456 q150) (lw_meth q1457)) rfl rfl rfl q1459 (by decide +kernel) ⟨Nat.le_trans hNF hRf, Nat.le_trans hNL hRl⟩)
      (hr.2 hz) rfl hls rfl hc8 hdg hP hD hS kk
end BQB
