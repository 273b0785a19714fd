/-! ArrayList: remove(0) of forty, add with room -/
section ALS
variable {p : Program} {l : Launch} {e : Env} {R : Room} {s : State} {m : MethodId} {args : Array Value} {below : List Frame} {meth : Method} {c : Code} {H : Heap} {locs : List Loc} {Q : State → Prop} {A : Nat → Prop} {D : va_G} {am : bqAm} {cc : ByteArray} {nL NF NL pc kc ks : Nat} {own : String} {ls : Array Slot} {rest st : List Value} {w : va_W} {X vE sE : Nat → Nat} {d : Nat → ClassId} {index b0 b1 : Nat} {mc : Int32} {g : Nat → Option Nat}
/-- the world's elements are States -/
def al_sts (g : Nat → Option Nat) (w : va_W) : Prop := ∀ k : Nat, k < 40 → ∃ (q i : Nat) (fs : List Value), g k = some q ∧ w[i]? = some (q, .inr (5, fs))
def al_rm (g : Nat → Option Nat) : Nat → Option Nat := va_up (va_cpy g g 1 0 39) 39 none
theorem al_mcs (hts : ∀ w ∈ lw_all, w.before args s = true) : ∀ x, s.fieldFound? (TJ2 0).1 (TJ2 0).2.1 (TJ2 0).2.2.1 = some x → s.fieldFound? RJ2 (TJ2 0).2.1 (TJ2 0).2.2.1 = some x := fun x hx => by
  have w := hts _ q499
  have hx : s.fieldFound? "java/util/AbstractList" "modCount" "I" = some x := hx
  show s.fieldFound? "java/util/ArrayList" "modCount" "I" = some x
  cases hr : s.fieldFound? "java/util/ArrayList" "modCount" "I" with
  | none => simp [Cond.before, Cond.holds, Cond.value, hr] at w
  | some y => obtain ⟨c1, k1, i1, f1⟩ := y; rw [Cond.sameField_spec hr w] at hx; exact hx
theorem al_gmc {a : Nat} {fs : List Value} {ws : va_W} (hx : p.tables.exec = Jvm.exec) (hb : c.code = cc) (hts : ∀ w ∈ lw_all, w.before args s = true) (hown : s.vm.findClass RJ2 = some m.cls) (hK : va_K D bqCl (bqTy d) s) (hP : va_P D bqCl ws H) {v : Value} (he : ws[0]? = some (a, .inr (14, fs))) (hv : fs[0]? = some v) (hdg : decode cc pc = .ok (.getfield 63, 3))
    (kk : W p l e R s m args below meth c H locs kc ks Q (F0 m (pc + 3) ls (v :: rest))) : W p l e R s m args below meth c H locs kc ks Q (F0 m pc ls (.ref a :: rest)) :=
  va_get (D := D) (ci := 14) (C := RJ2) (T := TJ2) (N := 3) (ref := RJ2) (fs := fs) hx hb hts in_J2 hown hK hP 0 he rfl 0 (by decide) (hts _ q498) (al_mcs hts) hv hdg kk
theorem al_pmc {H0 : Heap} {a : Nat} {fs : List Value} {ws ws' : va_W} {x : Int32} (hx : p.tables.exec = Jvm.exec) (hb : c.code = cc) (hts : ∀ w ∈ lw_all, w.before args s = true) (hown : s.vm.findClass RJ2 = some m.cls) (hK : va_K D bqCl (bqTy d) s) (hP : va_P D bqCl ws H) (hD : va_D A ws) (hS : va_S A H0 H locs) (he : ws[0]? = some (a, .inr (14, fs))) (hl : 0 < fs.length) (hw : ws.set 0 (a, .inr (14, fs.set 0 (.int x))) = ws') (hdg : decode cc pc = .ok (.putfield 63, 3))
    (kk : ∀ (H1 : Heap) (locs1 : List Loc), va_P D bqCl ws' H1 → va_D A ws' → va_S A H0 H1 locs1 → W p l e R s m args below meth c H1 locs1 kc ks Q (F0 m (pc + 3) ls rest)) : W p l e R s m args below meth c H locs kc ks Q (F0 m pc ls (.int x :: .ref a :: rest)) := by
  refine va_put (D := D) (ci := 14) (C := RJ2) (T := TJ2) (N := 3) (ref := RJ2) (fs := fs) hx hb hts in_J2 tyJ2 tyJ2_ok nmJ2 hown hK hP hD hS 0 he rfl 0 (by decide) (hts _ q498) (al_mcs hts) rfl (ty := .int) rfl rfl rfl hl hdg (fun H1 locs1 hP hD hS => ?_)
  rw [hw] at hP hD
  exact kk H1 locs1 hP hD hS
theorem met_al_fastRemove (hok : bq_Ok am) (hamb : bq_Amb am X vE sE) (hw : al_sts g w) : bq_M l yJ2_fastRemove cJ2_fastRemove 4 none 1 60 D bqCl (bqTy d) am [.ref b0, .ref b1, .int 0] (alB d b0 b1 mc 40 40 g ++ w) none (alB d b0 b1 (mc + 1) 39 40 (al_rm g) ++ w) := by
  refine bq_of hok (by decide +kernel) (Nat.le_of_ble_eq_true rfl) ?_
  intro p e s m below meth c A ls C hr hP hD hS hl
  have C0 := C
  obtain ⟨hx, hb, hown, hts, hml, hlocks, hA, hK, hm, hRf, hRl, hok⟩ := C
  have hl : lv_has ls 4 [(0, .ref b0), (1, .ref b1), (2, .int 0)] := hl
  refine lv_aload_n hx hb dJ2_fastRemove_0 rfl (lv_at hl 0 rfl) ?_
  refine lv_dup hx hb dJ2_fastRemove_1 rfl ?_
  refine al_gmc (v := .int mc) hx hb hts hown hK hP rfl rfl dJ2_fastRemove_2 ?_
  refine lv_iconst (v := 1) hx hb dJ2_fastRemove_5 (by decide) ?_
  refine lv_iadd hx hb dJ2_fastRemove_6 ?_
  refine al_pmc (ws' := alB d b0 b1 (mc + 1) 40 40 g ++ w) hx hb hts hown hK hP hD hS rfl (Nat.le_of_ble_eq_true rfl) rfl dJ2_fastRemove_7 (fun H locs hP hD hS => ?_)
  refine lv_aload_n hx hb dJ2_fastRemove_10 rfl (lv_at hl 0 rfl) ?_
  refine gJ2_get (own := RJ2) (v := .int 40) (q0 := 0) hx hb hts hown hK hP rfl 2 (by decide) (hts _ q496) rfl rfl dJ2_fastRemove_11 ?_
  refine lv_iconst (v := 1) hx hb dJ2_fastRemove_14 (by decide) ?_
  refine lv_isub hx hb dJ2_fastRemove_15 ?_
  refine lv_dup hx hb dJ2_fastRemove_16 rfl ?_
  refine lv_istore_n (lv' := [(3, .int 39), (0, .ref b0), (1, .ref b1), (2, .int 0)]) hx hb dJ2_fastRemove_17 rfl hl (by decide) rfl (fun ls hl => ?_)
  refine lv_iload_n hx hb dJ2_fastRemove_18 rfl (lv_at hl 3 rfl) ?_
  refine lv_icmp_le (tgt := 34) hx hb dJ2_fastRemove_19 (by decide) (fun c1 => absurd c1 (by decide)) (fun _ => ?_)
  refine lv_aload_n hx hb dJ2_fastRemove_22 rfl (lv_at hl 2 rfl) ?_
  refine lv_iload_n hx hb dJ2_fastRemove_23 rfl (lv_at hl 3 rfl) ?_
  refine lv_iconst (v := 1) hx hb dJ2_fastRemove_24 (by decide) ?_
  refine lv_iadd hx hb dJ2_fastRemove_25 ?_
  refine lv_aload_n hx hb dJ2_fastRemove_26 rfl (lv_at hl 2 rfl) ?_
  refine lv_iload_n hx hb dJ2_fastRemove_27 rfl (lv_at hl 3 rfl) ?_
  refine lv_iload_n hx hb dJ2_fastRemove_28 rfl (lv_at hl 0 rfl) ?_
  refine lv_iload_n hx hb dJ2_fastRemove_29 rfl (lv_at hl 3 rfl) ?_
  refine lv_isub hx hb dJ2_fastRemove_30 ?_
  have hcast := Cond.castable_spec (va_Nw.use (A := #[]) rfl (bq_nC hamb hm (a := RX6) (b := "java/lang/Object") (by decide +kernel)))
  refine va_copyq (sp := 1) (dp := 0) (n := 39) (C := RX6) hx hb (hml.trans hl.1.symm) hown (hts _ q833) (hts _ q302) (hts _ q301) (hts _ q129) hK hP hD hS 1 1 5 5 rfl rfl rfl rfl (by decide) (by decide) (by decide) (by decide) (by decide) ?_ ?_ hRf (Nat.le_trans (by decide +kernel) hRl) dJ2_fastRemove_31 (fun H locs hP hD hS => ?_)
  · intro i hi y hy
    obtain ⟨q, j, fs, h1, h2⟩ := hw (1 + i) (by rw [show (39 : Int32).toNatClampNeg = 39 from by decide] at hi; omega)
    have hy : g (1 + i) = some y := hy
    rw [h1] at hy
    cases hy
    exact va_recv hK hP (ci := 5) (q0 := 2 + j) (q := (RX6, TX6, 10)) rfl (by show (alB d b0 b1 (mc + 1) 40 40 g ++ w)[2 + j]? = _; rw [List.getElem?_append_right (by simp [alB])]; simpa [alB] using h2)
  · intro comp c0 h1 h2
    obtain ⟨c1, t1, f1, f2, f3⟩ := hcast
    cases h2.symm.trans f1
    cases h1.symm.trans f2
    exact f3
  refine lv_aload_n hx hb dJ2_fastRemove_34 rfl (lv_at hl 2 rfl) ?_
  refine lv_aload_n hx hb dJ2_fastRemove_35 rfl (lv_at hl 1 rfl) ?_
  refine lv_iload_n hx hb dJ2_fastRemove_36 rfl (lv_at hl 0 rfl) ?_
  refine lv_dup_x1 hx hb dJ2_fastRemove_37 rfl rfl ?_
  refine gJ2_put (own := RJ2) (ty := .int) (ws' := alB d b0 b1 (mc + 1) 39 40 (va_cpy g g 1 0 39) ++ w) hx hb hts hown hK hP hD hS (q0 := 0) rfl 2 (by decide) (hts _ q496) rfl rfl rfl rfl rfl (Nat.le_of_ble_eq_true rfl) rfl dJ2_fastRemove_38 (fun H locs hP hD hS => ?_)
  refine lv_null hx hb dJ2_fastRemove_41 ?_
  refine va_astqN hx hb hK hP hD hS 1 5 rfl rfl (i := 39) (n := 40) (by unfold vp_in; decide) dJ2_fastRemove_42 (fun H locs hP hD hS => ?_)
  exact bq_vret C0 hr hP hD hS dJ2_fastRemove_43
theorem met_al_remove (hok : bq_Ok am) (hamb : bq_Amb am X vE sE) (hw : al_sts g w) {q : Nat} (hg : g 0 = some q) : bq_M l yJ2_remove cJ2_remove 4 (some (.object "java/lang/Object")) 2 90 D bqCl (bqTy d) am [.ref b0, .int 0] (alB d b0 b1 mc 40 40 g ++ w) (some (.ref q)) (alB d b0 b1 (mc + 1) 39 40 (al_rm g) ++ w) := by
  refine bq_of hok (by decide +kernel) (Nat.le_of_ble_eq_true rfl) ?_
  intro p e s m below meth c A ls C hr hP hD hS hl
  have C0 := C
  obtain ⟨hx, hb, hown, hts, hml, hlocks, hA, hK, hm, hRf, hRl, hok⟩ := C
  have hl : lv_has ls 4 [(0, .ref b0), (1, .int 0)] := hl
  refine lv_iload_n hx hb dJ2_remove_0 rfl (lv_at hl 1 rfl) ?_
  refine lv_aload_n hx hb dJ2_remove_1 rfl (lv_at hl 0 rfl) ?_
  refine gJ2_get (own := RJ2) (v := .int (Int32.ofNat 40)) (q0 := 0) hx hb hts hown hK hP rfl 2 (by decide) (hts _ q496) rfl rfl dJ2_remove_2 ?_
  refine bq_callSi (n := 2) (As := [.int 0, .int (Int32.ofNat 40)]) (rest := []) C0 (met_obj_ck hok (by decide) (by unfold vp_in; decide)) (lw_S q744 q745 q139 q746) (by decide +kernel) (Nat.le_of_ble_eq_true rfl) (Nat.le_of_ble_eq_true rfl) rfl hl.1 rfl (Nat.le_of_ble_eq_true rfl) dJ2_remove_5 hP hD hS (fun H locs hP hD hS => ?_)
  refine lv_pop hx hb dJ2_remove_8 rfl ?_
  refine lv_aload_n hx hb dJ2_remove_9 rfl (lv_at hl 0 rfl) ?_
  refine gJ2_get (own := RJ2) (v := .ref b1) (q0 := 0) hx hb hts hown hK hP rfl 1 (by decide) (hts _ q495) rfl rfl dJ2_remove_10 ?_
  refine lv_astore_n (lv' := [(2, .ref b1), (0, .ref b0), (1, .int 0)]) hx hb dJ2_remove_13 rfl hl (by decide) rfl (fun ls hl => ?_)
  refine lv_aload_n hx hb dJ2_remove_14 rfl (lv_at hl 0 rfl) ?_
  refine lv_iload_n hx hb dJ2_remove_15 rfl (lv_at hl 2 rfl) ?_
  refine va_aldq (i := 0) (n := 40) hx hb hK hP 1 5 rfl rfl (by unfold vp_in; decide) dJ2_remove_16 ?_
  rw [show (0 : Int32).toNatClampNeg = 0 from by decide, hg]
  refine lv_astore_n (lv' := [(3, .ref q), (2, .ref b1), (0, .ref b0), (1, .int 0)]) hx hb dJ2_remove_17 rfl hl (by decide) rfl (fun ls hl => ?_)
  refine lv_aload_n hx hb dJ2_remove_18 rfl (lv_at hl 2 rfl) ?_
  refine lv_aload_n hx hb dJ2_remove_19 rfl (lv_at hl 1 rfl) ?_
  refine lv_iload_n hx hb dJ2_remove_20 rfl (lv_at hl 3 rfl) ?_
  refine bq_callV (w := alB d b0 b1 mc 40 40 g ++ w) (w' := alB d b0 b1 (mc + 1) 39 40 (al_rm g) ++ w) (wr := []) (n := 2) (o := none) (As := [.ref b1, .int 0]) (rest := []) C0 (met_al_fastRemove hok hamb hw) (lw_V q829 q831 qs6 q117 q832) (by decide +kernel) (Nat.le_of_ble_eq_true rfl) (Nat.le_of_ble_eq_true rfl) (va_recv hK hP (ci := 14) (q0 := 0) rfl rfl) rfl hl.1 rfl (Nat.le_of_ble_eq_true rfl) dJ2_remove_21 hP hD hS bq_pn (fun H locs hP hD hS => ?_)
  rw [List.append_nil] at hP hD
  refine lv_aload_n hx hb dJ2_remove_24 rfl (lv_at hl 0 rfl) ?_
  exact bq_aret C0 hr hP hD hS dJ2_remove_25
theorem met_al_add2 {n L q i ci : Nat} {fs : List Value} {r : vw_C} (hok : bq_Ok am) (hn : n < L ∧ L < 2147483648) (hamb : bq_Amb am X vE sE) (hw : w[i]? = some (q, .inr (ci, fs))) (hci : bqCl[ci]? = some r) (hcast : (r.1, "java/lang/Object") ∈ bqNC) : bq_M l yJ2_add_2 cJ2_add_2 4 none 0 0 D bqCl (bqTy d) am [.ref b0, .ref q, .ref b1, .int (Int32.ofNat n)] (alB d b0 b1 mc n L g ++ w) none (alB d b0 b1 mc (n + 1) L (va_up g n (some q)) ++ w) := by
  refine bq_of hok (by decide +kernel) (Nat.le_of_ble_eq_true rfl) ?_
  intro p e s m below meth c A ls C hr hP hD hS hl
  have C0 := C
  obtain ⟨hx, hb, hown, hts, hml, hlocks, hA, hK, hm, hRf, hRl, hok⟩ := C
  have hl : lv_has ls 4 [(0, .ref b0), (1, .ref q), (2, .ref b1), (3, .int (Int32.ofNat n))] := hl
  have hc : (Int32.ofNat n).toNatClampNeg = n := nI_clamp (by omega)
  refine lv_iload_n hx hb dJ2_add_2_0 rfl (lv_at hl 3 rfl) ?_
  refine lv_aload_n hx hb dJ2_add_2_1 rfl (lv_at hl 2 rfl) ?_
  refine va_alen (v := Int32.ofNat L) hx hb hK hP 1 5 rfl rfl rfl dJ2_add_2_2 ?_
  refine lv_icmp_ne (tgt := 11) hx hb dJ2_add_2_3 (by decide) (fun _ => ?_) (fun c1 => absurd (congrArg Int32.toNatClampNeg c1) (by rw [hc, show (Int32.ofNat L).toNatClampNeg = L from nI_clamp (by omega)]; omega))
  refine lv_aload_n hx hb dJ2_add_2_11 rfl (lv_at hl 2 rfl) ?_
  refine lv_iload_n hx hb dJ2_add_2_12 rfl (lv_at hl 3 rfl) ?_
  refine lv_aload_n hx hb dJ2_add_2_13 rfl (lv_at hl 1 rfl) ?_
  refine va_astqO (E := "java/lang/Object") hx hb hK hP hD hS 1 5 (2 + i) ci rfl rfl (bq_nC hamb hm hcast) (by show (alB d b0 b1 mc n L g ++ w)[2 + i]? = _; rw [List.getElem?_append_right (by simp [alB])]; simpa [alB] using hw) hci (by rw [vp_in_iff]; have := nI_toInt (n := n) (by omega); unfold nI at this; omega) dJ2_add_2_14 (fun H locs hP hD hS => ?_)
  rw [hc] at hP hD
  refine lv_aload_n hx hb dJ2_add_2_15 rfl (lv_at hl 0 rfl) ?_
  refine lv_iload_n hx hb dJ2_add_2_16 rfl (lv_at hl 3 rfl) ?_
  refine lv_iconst (v := 1) hx hb dJ2_add_2_17 (by decide) ?_
  refine lv_iadd hx hb dJ2_add_2_18 ?_
  rw [show (Int32.ofNat n + 1 : Int32) = Int32.ofNat (n + 1) from (nI_succ n).symm]
  refine gJ2_put (own := RJ2) (fs := [.int mc, .ref b1, .int (Int32.ofNat n)]) (ty := .int) (ws' := alB d b0 b1 mc (n + 1) L (va_up g n (some q)) ++ w) hx hb hts hown hK hP hD hS (q0 := 0) rfl 2 (by decide) (hts _ q496) rfl rfl rfl rfl rfl (Nat.le_of_ble_eq_true rfl) rfl dJ2_add_2_19 (fun H locs hP hD hS => ?_)
  exact bq_vret C0 hr hP hD hS dJ2_add_2_22
theorem met_al_add {n L q i ci : Nat} {fs : List Value} {r : vw_C} (hok : bq_Ok am) (hn : n < L ∧ L < 2147483648) (hamb : bq_Amb am X vE sE) (hw : w[i]? = some (q, .inr (ci, fs))) (hci : bqCl[ci]? = some r) (hcast : (r.1, "java/lang/Object") ∈ bqNC) : bq_M l yJ2_add cJ2_add 2 (some .boolean) 1 30 D bqCl (bqTy d) am [.ref b0, .ref q] (alB d b0 b1 mc n L g ++ w) (some (.int 1)) (alB d b0 b1 (mc + 1) (n + 1) L (va_up g n (some q)) ++ w) := by
  refine bq_of hok (by decide +kernel) (Nat.le_of_ble_eq_true rfl) ?_
  intro p e s m below meth c A ls C hr hP hD hS hl
  have C0 := C
  obtain ⟨hx, hb, hown, hts, hml, hlocks, hA, hK, hm, hRf, hRl, hok⟩ := C
  have hl : lv_has ls 2 [(0, .ref b0), (1, .ref q)] := hl
  refine lv_aload_n hx hb dJ2_add_0 rfl (lv_at hl 0 rfl) ?_
  refine lv_dup hx hb dJ2_add_1 rfl ?_
  refine al_gmc (fs := [.int mc, .ref b1, .int (Int32.ofNat n)]) (v := .int mc) hx hb hts hown hK hP rfl rfl dJ2_add_2 ?_
  refine lv_iconst (v := 1) hx hb dJ2_add_5 (by decide) ?_
  refine lv_iadd hx hb dJ2_add_6 ?_
  refine al_pmc (fs := [.int mc, .ref b1, .int (Int32.ofNat n)]) (ws' := alB d b0 b1 (mc + 1) n L g ++ w) hx hb hts hown hK hP hD hS rfl (Nat.le_of_ble_eq_true rfl) rfl dJ2_add_7 (fun H locs hP hD hS => ?_)
  refine lv_aload_n hx hb dJ2_add_10 rfl (lv_at hl 0 rfl) ?_
  refine lv_aload_n hx hb dJ2_add_11 rfl (lv_at hl 1 rfl) ?_
  refine lv_aload_n hx hb dJ2_add_12 rfl (lv_at hl 0 rfl) ?_
  refine gJ2_get (own := RJ2) (fs := [.int (mc + 1), .ref b1, .int (Int32.ofNat n)]) (v := .ref b1) (q0 := 0) hx hb hts hown hK hP rfl 1 (by decide) (hts _ q495) rfl rfl dJ2_add_13 ?_
  refine lv_aload_n hx hb dJ2_add_16 rfl (lv_at hl 0 rfl) ?_
  refine gJ2_get (own := RJ2) (fs := [.int (mc + 1), .ref b1, .int (Int32.ofNat n)]) (v := .int (Int32.ofNat n)) (q0 := 0) hx hb hts hown hK hP rfl 2 (by decide) (hts _ q496) rfl rfl dJ2_add_17 ?_
  refine bq_callV (w := alB d b0 b1 (mc + 1) n L g ++ w) (w' := alB d b0 b1 (mc + 1) (n + 1) L (va_up g n (some q)) ++ w) (wr := []) (n := 3) (o := none) (As := [.ref q, .ref b1, .int (Int32.ofNat n)]) (rest := []) C0 (met_al_add2 hok hn hamb hw hci hcast) (lw_V q644 q646 qs1 q117 q647) (by decide +kernel) (Nat.le_of_ble_eq_true rfl) (Nat.le_of_ble_eq_true rfl) (va_recv hK hP (ci := 14) (q0 := 0) rfl rfl) rfl hl.1 rfl (Nat.le_of_ble_eq_true rfl) dJ2_add_20 hP hD hS bq_pn (fun H locs hP hD hS => ?_)
  rw [List.append_nil] at hP hD
  refine lv_iconst (v := 1) hx hb dJ2_add_23 (by decide) ?_
  exact bq_zret C0 hr (by decide) hP hD hS dJ2_add_24
end ALS
