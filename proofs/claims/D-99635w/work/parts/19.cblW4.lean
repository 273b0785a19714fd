set_option maxRecDepth 100000
set_option maxHeartbeats 4000000 in
theorem wk_bl_look_L74 {p : Program} {e : Env} {R : Room} {s : State} {m : MethodId} {args : Array Value} {below : List Frame} {meth : Method} {c : Code} {A : Nat → Prop} {kc ks : Nat} {Q : State → Prop} {l : Launch} {D : va_G} {am : bqAm} {X vE sE : Nat → Nat} {d : Nat → ClassId} {ba ca ia ka na ta : Nat → Nat} {dy fa : Option Nat} {L : Nat} {mc : Int32} {P : va_W} {F : Nat} {E : bqE} (C : bq_C p R s m args meth c A D bqCl (bqTy d) am cX1_look 7 RX1 806 24174) (hkc : kc ≤ R.cells) (hks : ks ≤ R.slots) (hamb : bq_Amb am X vE sE) (hst : l.stackTraces = false) (hE : bq_E P vE dy fa E) (hby : bq_By l D am d ca vE P 400) (hL : E.1 ≤ L ∧ L < 2147483648) {β : bqS} {σ : bqS} {τ : bqS} {μ : bqS} {ν : bqS} {κ : bqS} {x1 : Int32} :
    ∀ (k : Nat) (x2 : Int32) (x3 : Int32) (x4 : Int32) (x5 : Int32) (y3 : Int32) (y4 : Int32) (H : Heap) (locs : List Loc), bl_look_L74 F E β σ τ μ ν κ k x2 x3 x4 x5 = some (y3, y4) → va_P D bqCl (List.flatten ([bbB d ba ca na ta ka ia β, stB d na σ, stB d ta τ, bkB d ka na μ, viB d ca ν, coB d ca dy fa κ, lsB d ca L mc E.1, giB ca E.1 κ, P] : List va_W)) H → va_D A (List.flatten ([bbB d ba ca na ta ka ia β, stB d na σ, stB d ta τ, bkB d ka na μ, viB d ca ν, coB d ca dy fa κ, lsB d ca L mc E.1, giB ca E.1 κ, P] : List va_W)) → va_S A s.heap H locs → ∀ ls : Array Slot, lv_has ls 7 [(0, .ref (ba 0)), (1, .int x1), (2, .int x2), (3, .int x3), (4, .int x4), (5, .int x5)] →
      (∀ (H : Heap) (locs : List Loc), va_P D bqCl (List.flatten ([bbB d ba ca na ta ka ia β, stB d na σ, stB d ta τ, bkB d ka na μ, viB d ca ν, coB d ca dy fa κ, lsB d ca L mc E.1, giB ca E.1 κ, P] : List va_W)) H → va_D A (List.flatten ([bbB d ba ca na ta ka ia β, stB d na σ, stB d ta τ, bkB d ka na μ, viB d ca ν, coB d ca dy fa κ, lsB d ca L mc E.1, giB ca E.1 κ, P] : List va_W)) → va_S A s.heap H locs → ∀ ls : Array Slot, lv_has ls 7 [(1, .int x1), (3, .int y3), (4, .int y4)] → W p l e R s m args below meth c H locs kc ks Q (F0 m 115 ls [])) →
      W p l e R s m args below meth c H locs kc ks Q (F0 m 74 ls []) := by
  have C0 := C
  obtain ⟨hx, hb, hown, hts, hml, hlocks, hA, hK, hm, hRf, hRl, hok⟩ := C
  have C := C0
  intro k
  induction k with
  | zero => intro x2 x3 x4 x5 y3 y4 H locs hf
            cases hf
  | succ k ih =>
    intro x2 x3 x4 x5 y3 y4 H locs hf hP hD hS ls hl hk0
    rw [bl_look_L74] at hf
    refine lv_iload hx hb dX1_look_74 (lv_at hl 5 rfl) ?_
    refine lv_aload_n hx hb dX1_look_76 rfl (lv_at hl 0 rfl) ?_
    obtain ⟨v24, hg, hf⟩ := bq_b1s hf
    refine bq_cV (bs := [bbB d ba ca na ta ka ia β, stB d na σ, stB d ta τ, bkB d ka na μ, viB d ca ν, coB d ca dy fa κ, lsB d ca L mc E.1, giB ca E.1 κ, P]) (bc := [bbB d ba ca na ta ka ia β, coB d ca dy fa κ]) (br := [stB d na σ, stB d ta τ, bkB d ka na μ, viB d ca ν, lsB d ca L mc E.1, giB ca E.1 κ, P]) (bc' := [bbB d ba ca na ta ka ia β, coB d ca dy fa κ]) (bs' := [bbB d ba ca na ta ka ia β, stB d na σ, stB d ta τ, bkB d ka na μ, viB d ca ν, coB d ca dy fa κ, lsB d ca L mc E.1, giB ca E.1 κ, P]) (As := []) (rest := [.int x5]) (o := (some (.int v24))) C hkc hks (met_bl_cells hok hamb hg) (bq_pm [0, 5, 1, 2, 3, 4, 6, 7, 8] rfl rfl rfl) (bq_pm [0, 2, 3, 4, 5, 1, 6, 7, 8] rfl rfl rfl) (lw_V q990 q992 qs13 q113 q993) (hd_X1_cells) (Nat.le_of_ble_eq_true rfl) (Nat.le_of_ble_eq_true rfl) (va_recv hK hP (ci := 1) (q0 := 0) rfl rfl) rfl hl.1 rfl (Nat.le_of_ble_eq_true rfl) dX1_look_77 hP hD hS (fun H locs hP hD hS => ?_)
    refine lv_icmp_ge (tgt := 115) hx hb dX1_look_80 (by decide) (fun c25 => ?_) (fun c25 => ?_)
    · have hf := bq_ip c25 hf
      obtain ⟨rfl, rfl⟩ := bq_p2 hf
      exact hk0 _ _ hP hD hS ls (lv_sub hl [1, 3, 4] rfl)
    · have hf := bq_in c25 hf
      refine lv_aload_n hx hb dX1_look_83 rfl (lv_at hl 0 rfl) ?_
      refine lv_iload hx hb dX1_look_84 (lv_at hl 5 rfl) ?_
      refine lv_iload_n hx hb dX1_look_86 rfl (lv_at hl 2 rfl) ?_
      obtain ⟨v26, hg, hf⟩ := bq_b1s hf
      refine bq_cV (bs := [bbB d ba ca na ta ka ia β, stB d na σ, stB d ta τ, bkB d ka na μ, viB d ca ν, coB d ca dy fa κ, lsB d ca L mc E.1, giB ca E.1 κ, P]) (bc := [bbB d ba ca na ta ka ia β]) (br := [stB d na σ, stB d ta τ, bkB d ka na μ, viB d ca ν, coB d ca dy fa κ, lsB d ca L mc E.1, giB ca E.1 κ, P]) (bc' := [bbB d ba ca na ta ka ia β]) (bs' := [bbB d ba ca na ta ka ia β, stB d na σ, stB d ta τ, bkB d ka na μ, viB d ca ν, coB d ca dy fa κ, lsB d ca L mc E.1, giB ca E.1 κ, P]) (As := [.int x5, .int x2]) (rest := []) (o := (some (.int v26))) C hkc hks (met_bl_unlike hok hamb hg) (bq_pm [0, 1, 2, 3, 4, 5, 6, 7, 8] rfl rfl rfl) (bq_pm [0, 1, 2, 3, 4, 5, 6, 7, 8] rfl rfl rfl) (lw_V q1639 q1641 qs45 q113 q1642) (hd_X1_unlike) (Nat.le_of_ble_eq_true rfl) (Nat.le_of_ble_eq_true rfl) (va_recv hK hP (ci := 1) (q0 := 0) rfl rfl) rfl hl.1 rfl (Nat.le_of_ble_eq_true rfl) dX1_look_87 hP hD hS (fun H locs hP hD hS => ?_)
      refine lv_istore (lv' := [(6, .int v26), (0, .ref (ba 0)), (1, .int x1), (2, .int x2), (3, .int x3), (4, .int x4), (5, .int x5)]) hx hb dX1_look_90 hl (by decide) rfl (fun ls hl => ?_)
      refine lv_iload hx hb dX1_look_92 (lv_at hl 0 rfl) ?_
      refine lv_iload hx hb dX1_look_94 (lv_at hl 5 rfl) ?_
      refine lv_icmp_gt (tgt := 102) hx hb dX1_look_96 (by decide) (fun c27 => ?_) (fun c27 => ?_)
      · have hf := bq_ip c27 hf
        refine lv_iload hx hb dX1_look_102 (lv_at hl 6 rfl) ?_
        refine lv_istore_n (lv' := [(3, .int x5), (6, .int v26), (0, .ref (ba 0)), (1, .int x1), (2, .int x2), (4, .int x4), (5, .int x5)]) hx hb dX1_look_104 rfl hl (by decide) rfl (fun ls hl => ?_)
        refine lv_iload hx hb dX1_look_105 (lv_at hl 1 rfl) ?_
        refine lv_istore (lv' := [(4, .int v26), (3, .int x5), (6, .int v26), (0, .ref (ba 0)), (1, .int x1), (2, .int x2), (5, .int x5)]) hx hb dX1_look_107 hl (by decide) rfl (fun ls hl => ?_)
        obtain ⟨v28, ev28, hf⟩ := bq_lts hf
        refine lv_iinc (v := v28) (lv' := [(5, .int v28), (4, .int v26), (3, .int x5), (6, .int v26), (0, .ref (ba 0)), (1, .int x1), (2, .int x2)]) hx hb dX1_look_109 hl (k := 6) rfl (bq_inc (by decide) ev28) (by decide) rfl (fun ls hl => ?_)
        refine lv_goto (tgt := 74) hx hb dX1_look_112 (by decide) ?_
        exact ih _ _ _ _ _ _ _ _ hf hP hD hS ls (lv_sub hl [4, 5, 6, 2, 1, 0] rfl) hk0
      · have hf := bq_in c27 hf
        refine lv_goto (tgt := 109) hx hb dX1_look_99 (by decide) ?_
        obtain ⟨v29, ev29, hf⟩ := bq_lts hf
        refine lv_iinc (v := v29) (lv' := [(5, .int v29), (6, .int v26), (0, .ref (ba 0)), (1, .int x1), (2, .int x2), (3, .int x3), (4, .int x4)]) hx hb dX1_look_109 hl (k := 6) rfl (bq_inc (by decide) ev29) (by decide) rfl (fun ls hl => ?_)
        refine lv_goto (tgt := 74) hx hb dX1_look_112 (by decide) ?_
        exact ih _ _ _ _ _ _ _ _ hf hP hD hS ls (lv_sub hl [2, 3, 4, 5, 6, 0] rfl) hk0
set_option maxHeartbeats 4000000 in
theorem met_bl_look {l : Launch} {D : va_G} {am : bqAm} {X vE sE : Nat → Nat} {d : Nat → ClassId} {ba ca ia ka na ta : Nat → Nat} {dy fa : Option Nat} {L : Nat} {mc : Int32} {P : va_W} {F : Nat} {E : bqE} {β : bqS} {σ : bqS} {τ : bqS} {μ : bqS} {ν : bqS} {κ : bqS} {β' : bqS} {τ' : bqS} {ν' : bqS} {r : Int32} {tg : Nat} {x1 : Int32} (hok : bq_Ok am) (hamb : bq_Amb am X vE sE) (hst : l.stackTraces = false) (hE : bq_E P vE dy fa E) (hby : bq_By l D am d ca vE P 400) (hL : E.1 ≤ L ∧ L < 2147483648) (hf : bl_look F E β σ τ μ ν κ x1 = some (tg, r, β', τ', ν')) : bq_X l yX1_look cX1_look 7 (some .int) 806 24174 1 6 D bqCl (bqTy d) am [.ref (ba 0), .int x1] (List.flatten ([bbB d ba ca na ta ka ia β, stB d na σ, stB d ta τ, bkB d ka na μ, viB d ca ν, coB d ca dy fa κ, lsB d ca L mc E.1, giB ca E.1 κ, P] : List va_W)) tg (some (.int r)) (List.flatten ([bbB d ba ca na ta ka ia β', stB d na σ, stB d ta τ', bkB d ka na μ, viB d ca ν', coB d ca dy fa κ, lsB d ca L mc E.1, giB ca E.1 κ, P] : List va_W)) := by
  unfold bl_look at hf
  refine bq_ofX hok (by decide +kernel) (Nat.le_of_ble_eq_true rfl) ?_
  intro p e s m below meth c A ls C hr hex hP hD hS hl
  have C0 := C
  obtain ⟨hx, hb, hown, hts, hml, hlocks, hA, hK, hm, hRf, hRl, hok⟩ := C
  have C := C0
  have hkc := Nat.zero_le 1
  have hks := Nat.zero_le 6
  have hl : lv_has ls 7 [(0, .ref (ba 0)), (1, .int x1)] := hl
  refine lv_iload_n hx hb dX1_look_0 rfl (lv_at hl 1 rfl) ?_
  refine lv_iconst (v := (0 : Int32)) hx hb dX1_look_1 (by decide) ?_
  refine lv_iconst (v := (1 : Int32)) hx hb dX1_look_2 (by decide) ?_
  obtain ⟨v1, hg, hf⟩ := bq_b1s hf
  refine bq_cS (bs := [bbB d ba ca na ta ka ia β, stB d na σ, stB d ta τ, bkB d ka na μ, viB d ca ν, coB d ca dy fa κ, lsB d ca L mc E.1, giB ca E.1 κ, P]) (bc := []) (br := [bbB d ba ca na ta ka ia β, stB d na σ, stB d ta τ, bkB d ka na μ, viB d ca ν, coB d ca dy fa κ, lsB d ca L mc E.1, giB ca E.1 κ, P]) (bc' := []) (bs' := [bbB d ba ca na ta ka ia β, stB d na σ, stB d ta τ, bkB d ka na μ, viB d ca ν, coB d ca dy fa κ, lsB d ca L mc E.1, giB ca E.1 κ, P]) (As := [.int x1, .int (0 : Int32), .int (1 : Int32)]) (rest := []) (o := (some (.int v1))) C hkc hks (met_bl_within hok hg) (bq_pm [0, 1, 2, 3, 4, 5, 6, 7, 8] rfl rfl rfl) (bq_pm [0, 1, 2, 3, 4, 5, 6, 7, 8] rfl rfl rfl) (lw_S q814 q815 q113 q816) (hd_X1_within) (Nat.le_of_ble_eq_true rfl) (Nat.le_of_ble_eq_true rfl) rfl hl.1 rfl (Nat.le_of_ble_eq_true rfl) dX1_look_3 hP hD hS (fun H locs hP hD hS => ?_)
  obtain ⟨t2, hg, hf⟩ := bq_b1s hf
  refine bq_cSX (bs := [bbB d ba ca na ta ka ia β, stB d na σ, stB d ta τ, bkB d ka na μ, viB d ca ν, coB d ca dy fa κ, lsB d ca L mc E.1, giB ca E.1 κ, P]) (bc := []) (br := [bbB d ba ca na ta ka ia β, stB d na σ, stB d ta τ, bkB d ka na μ, viB d ca ν, coB d ca dy fa κ, lsB d ca L mc E.1, giB ca E.1 κ, P]) (bc' := []) (bs' := [bbB d ba ca na ta ka ia β, stB d na σ, stB d ta τ, bkB d ka na μ, viB d ca ν, coB d ca dy fa κ, lsB d ca L mc E.1, giB ca E.1 κ, P]) (As := [.int v1]) (rest := []) (o := none) C (Nat.le_of_ble_eq_true rfl) (Nat.le_of_ble_eq_true rfl) (met_bl_there hok hamb hst hg) (bq_pm [0, 1, 2, 3, 4, 5, 6, 7, 8] rfl rfl rfl) (bq_pm [0, 1, 2, 3, 4, 5, 6, 7, 8] rfl rfl rfl) (lw_S q1394 q1395 q113 q1396) (hd_X1_there) (Nat.le_of_ble_eq_true rfl) (Nat.le_of_ble_eq_true rfl) rfl hl.1 rfl (Nat.le_of_ble_eq_true rfl) dX1_look_6 hP hD hS (fun ht_ H locs hP hD hS => ?_) (fun ht_ => ?_)
  · have hf := bq_ip ht_ hf
    have hkc : 1 ≤ 1 := by decide
    have hks : 6 ≤ 6 := by decide
    refine lv_iconst (v := (0 : Int32)) hx hb dX1_look_9 (by decide) ?_
    refine lv_istore_n (lv' := [(2, .int (0 : Int32)), (0, .ref (ba 0)), (1, .int x1)]) hx hb dX1_look_10 rfl hl (by decide) rfl (fun ls hl => ?_)
    refine lv_iconst (v := (0 : Int32)) hx hb dX1_look_11 (by decide) ?_
    refine lv_istore_n (lv' := [(3, .int (0 : Int32)), (2, .int (0 : Int32)), (0, .ref (ba 0)), (1, .int x1)]) hx hb dX1_look_12 rfl hl (by decide) rfl (fun ls hl => ?_)
    obtain ⟨v20, β21, τ22, ν23, hg, hf⟩ := bq_b4s hf
    refine wk_bl_look_L13 C hkc hks hamb hst hE hby hL _ _ _ _ _ _ _ _ _ _ _ _ hg hP hD hS ls (lv_sub hl [2, 3, 1, 0] rfl) ?_
    · intro H locs hP hD hS ls hl
      refine lv_iconst (v := (-1 : Int32)) hx hb dX1_look_66 (by decide) ?_
      refine lv_istore_n (lv' := [(3, .int (-1 : Int32)), (0, .ref (ba 0)), (1, .int x1), (2, .int v20)]) hx hb dX1_look_67 rfl hl (by decide) rfl (fun ls hl => ?_)
      refine lv_iconst (v := (0 : Int32)) hx hb dX1_look_68 (by decide) ?_
      refine lv_istore (lv' := [(4, .int (0 : Int32)), (3, .int (-1 : Int32)), (0, .ref (ba 0)), (1, .int x1), (2, .int v20)]) hx hb dX1_look_69 hl (by decide) rfl (fun ls hl => ?_)
      refine lv_iconst (v := (0 : Int32)) hx hb dX1_look_71 (by decide) ?_
      refine lv_istore (lv' := [(5, .int (0 : Int32)), (4, .int (0 : Int32)), (3, .int (-1 : Int32)), (0, .ref (ba 0)), (1, .int x1), (2, .int v20)]) hx hb dX1_look_72 hl (by decide) rfl (fun ls hl => ?_)
      obtain ⟨v30, v31, hg, hf⟩ := bq_b2s hf
      refine wk_bl_look_L74 C hkc hks hamb hst hE hby hL _ _ _ _ _ _ _ _ _ hg hP hD hS ls (lv_sub hl [3, 4, 5, 2, 1, 0] rfl) ?_
      · intro H locs hP hD hS ls hl
        refine lv_iload_n hx hb dX1_look_115 rfl (lv_at hl 0 rfl) ?_
        refine lv_if_ne (tgt := 123) hx hb dX1_look_116 (by decide) (fun c32 => ?_) (fun c32 => ?_)
        · have hf := bq_in c32 hf
          refine lv_iload hx hb dX1_look_123 (lv_at hl 2 rfl) ?_
          obtain ⟨rfl, rfl, rfl, rfl, rfl⟩ := bq_p5 hf
          exact bq_iretX C hr (by decide) (by decide) hP hD hS dX1_look_125
        · have hf := bq_ip c32 hf
          refine lv_iload_n hx hb dX1_look_119 rfl (lv_at hl 1 rfl) ?_
          refine lv_goto (tgt := 125) hx hb dX1_look_120 (by decide) ?_
          obtain ⟨rfl, rfl, rfl, rfl, rfl⟩ := bq_p5 hf
          exact bq_iretX C hr (by decide) (by decide) hP hD hS dX1_look_125
  · have hf := bq_in ht_ hf
    obtain ⟨rfl, rfl, rfl, rfl, rfl⟩ := bq_p5 hf
    exact bq_prop C hex ht_ (by decide) (by decide)
set_option maxHeartbeats 4000000 in
theorem met_bl_forget {l : Launch} {D : va_G} {am : bqAm} {X vE sE : Nat → Nat} {d : Nat → ClassId} {ba ca ia ka na ta : Nat → Nat} {β : bqS} {μ : bqS} {μ' : bqS} (hok : bq_Ok am) (hamb : bq_Amb am X vE sE) (hf : bl_forget β μ = some μ') : bq_M l yX1_forget cX1_forget 1 none 0 0 D bqCl (bqTy d) am [.ref (ba 0)] (List.flatten ([bbB d ba ca na ta ka ia β, bkB d ka na μ] : List va_W)) none (List.flatten ([bbB d ba ca na ta ka ia β, bkB d ka na μ'] : List va_W)) := by
  unfold bl_forget at hf
  refine bq_of hok (by decide +kernel) (Nat.le_of_ble_eq_true rfl) ?_
  intro p e s m below meth c A ls C hr hP hD hS hl
  have C0 := C
  obtain ⟨hx, hb, hown, hts, hml, hlocks, hA, hK, hm, hRf, hRl, hok⟩ := C
  have C := C0
  have hkc := Nat.zero_le 0
  have hks := Nat.zero_le 0
  have hl : lv_has ls 1 [(0, .ref (ba 0))] := hl
  refine lv_aload_n hx hb dX1_forget_0 rfl (lv_at hl 0 rfl) ?_
  refine gX1_get (own := RX1) (fs := (bbF ba ca na ta ka ia β)) (v := .ref (ka 0)) hx hb hts hown hK hP (q0 := 0) rfl 1 (Nat.le_of_ble_eq_true rfl) (hts _ q756) rfl dX1_forget_1 ?_
  refine lv_iconst (v := (0 : Int32)) hx hb dX1_forget_4 (by decide) ?_
  obtain ⟨μ1, eμ1, hf⟩ := bq_lts hf
  refine gX5_putN (own := RX1) (host := "BlueBag") (fs := (bkF ka na μ)) (ty := .int) (ws' := (List.flatten ([bbB d ba ca na ta ka ia β, bkB d ka na (bq_up μ 0 7 (0 : Int32))] : List va_W))) hx hb hts hown hK hP hD hS (q0 := 6) rfl 7 (Nat.le_of_ble_eq_true rfl) (bq_nF hamb hm 6 rfl) rfl rfl rfl rfl (Nat.le_of_ble_eq_true rfl) rfl dX1_forget_5 (fun H locs hP hD hS => ?_)
  rw [← eμ1] at hP hD
  obtain rfl := Option.some.inj hf
  exact bq_vret C hr hP hD hS dX1_forget_8
set_option maxHeartbeats 4000000 in
theorem wk_bl_gains_J65 {p : Program} {e : Env} {R : Room} {s : State} {m : MethodId} {args : Array Value} {below : List Frame} {meth : Method} {c : Code} {A : Nat → Prop} {l : Launch} {D : va_G} {am : bqAm} {X vE sE : Nat → Nat} {d : Nat → ClassId} {ba ca ia ka na ta : Nat → Nat} {dy fa : Option Nat} {L : Nat} {mc : Int32} {P : va_W} {F : Nat} {E : bqE} (C : bq_C p R s m args meth c A D bqCl (bqTy d) am cX1_gains 5 RX1 805 24152) (hkc : 0 ≤ R.cells) (hks : 0 ≤ R.slots) (hamb : bq_Amb am X vE sE) (hE : bq_E P vE dy fa E) (hby : bq_By l D am d ca vE P 400) (hL : E.1 ≤ L ∧ L < 2147483648) (hr : meth.sig.returnType = (some .int)) (β : bqS) (σ : bqS) (τ : bqS) (ν : bqS) (κ : bqS) (x1 : Int32) (x3 : Int32) (r : Int32) (τ' : bqS) (ν' : bqS) (H : Heap) (locs : List Loc) :
      bl_gains_J65 F E β σ τ ν κ x1 x3 = some (r, τ', ν') → va_P D bqCl (List.flatten ([bbB d ba ca na ta ka ia β, stB d na σ, stB d ta τ, viB d ca ν, coB d ca dy fa κ, lsB d ca L mc E.1, giB ca E.1 κ, P] : List va_W)) H → va_D A (List.flatten ([bbB d ba ca na ta ka ia β, stB d na σ, stB d ta τ, viB d ca ν, coB d ca dy fa κ, lsB d ca L mc E.1, giB ca E.1 κ, P] : List va_W)) → va_S A s.heap H locs → ∀ ls : Array Slot, lv_has ls 5 [(0, .ref (ba 0)), (1, .int x1), (3, .int x3)] →
      W p l e R s m args below meth c H locs 0 0 (MQ below (bq_Q D bqCl (some (.int r)) (List.flatten ([bbB d ba ca na ta ka ia β, stB d na σ, stB d ta τ', viB d ca ν', coB d ca dy fa κ, lsB d ca L mc E.1, giB ca E.1 κ, P] : List va_W)) A) args s 0 0 A) (F0 m 65 ls []) := by
  have C0 := C
  obtain ⟨hx, hb, hown, hts, hml, hlocks, hA, hK, hm, hRf, hRl, hok⟩ := C
  have C := C0
  intro hf hP hD hS ls hl 
  unfold bl_gains_J65 at hf
  refine lv_aload_n hx hb dX1_gains_65 rfl (lv_at hl 0 rfl) ?_
  refine gX1_get (own := RX1) (fs := (bbF ba ca na ta ka ia β)) (v := .ref (ta 0)) hx hb hts hown hK hP (q0 := 0) rfl 4 (Nat.le_of_ble_eq_true rfl) (hts _ q759) rfl dX1_gains_66 ?_
  refine lv_aload_n hx hb dX1_gains_69 rfl (lv_at hl 0 rfl) ?_
  refine gX1_get (own := RX1) (fs := (bbF ba ca na ta ka ia β)) (v := .ref (ca 0)) hx hb hts hown hK hP (q0 := 0) rfl 0 (Nat.le_of_ble_eq_true rfl) (hts _ q755) rfl dX1_gains_70 ?_
  obtain ⟨τ6, ν7, hg, hf⟩ := bq_b2s hf
  refine bq_cV (bs := [bbB d ba ca na ta ka ia β, stB d na σ, stB d ta τ, viB d ca ν, coB d ca dy fa κ, lsB d ca L mc E.1, giB ca E.1 κ, P]) (bc := [stB d ta τ, viB d ca ν, coB d ca dy fa κ, lsB d ca L mc E.1, giB ca E.1 κ, P]) (br := [bbB d ba ca na ta ka ia β, stB d na σ]) (bc' := [stB d ta τ6, viB d ca ν7, coB d ca dy fa κ, lsB d ca L mc E.1, giB ca E.1 κ, P]) (bs' := [bbB d ba ca na ta ka ia β, stB d na σ, stB d ta τ6, viB d ca ν7, coB d ca dy fa κ, lsB d ca L mc E.1, giB ca E.1 κ, P]) (As := [.ref (ca 0)]) (rest := []) (o := none) C hkc hks (met_st_goes hok hamb hE hby hL hg) (bq_pm [2, 3, 4, 5, 6, 7, 0, 1] rfl rfl rfl) (bq_pm [6, 7, 0, 1, 2, 3, 4, 5] rfl rfl rfl) (lw_V q844 q845 q846 q138 q847) (hd_X6_goes) (Nat.le_of_ble_eq_true rfl) (Nat.le_of_ble_eq_true rfl) (va_recv hK hP (ci := 5) (q0 := 11) rfl rfl) rfl hl.1 rfl (Nat.le_of_ble_eq_true rfl) dX1_gains_73 hP hD hS (fun H locs hP hD hS => ?_)
  refine lv_aload_n hx hb dX1_gains_76 rfl (lv_at hl 0 rfl) ?_
  refine gX1_get (own := RX1) (fs := (bbF ba ca na ta ka ia β)) (v := .ref (ta 0)) hx hb hts hown hK hP (q0 := 0) rfl 4 (Nat.le_of_ble_eq_true rfl) (hts _ q759) rfl dX1_gains_77 ?_
  refine gX6_getN (own := RX1) (host := "BlueBag") (fs := (stF ta τ6)) (v := .ref (ta 1)) hx hb hts hown hK hP (q0 := 11) rfl 0 (Nat.le_of_ble_eq_true rfl) (bq_nF hamb hm 15 rfl) rfl dX1_gains_80 ?_
  refine lv_aload_n hx hb dX1_gains_83 rfl (lv_at hl 0 rfl) ?_
  refine gX1_get (own := RX1) (fs := (bbF ba ca na ta ka ia β)) (v := .ref (ta 0)) hx hb hts hown hK hP (q0 := 0) rfl 4 (Nat.le_of_ble_eq_true rfl) (hts _ q759) rfl dX1_gains_84 ?_
  refine gX6_getN (own := RX1) (host := "BlueBag") (fs := (stF ta τ6)) (v := .ref (ta 2)) hx hb hts hown hK hP (q0 := 11) rfl 1 (Nat.le_of_ble_eq_true rfl) (bq_nF hamb hm 16 rfl) rfl dX1_gains_87 ?_
  refine lv_iload_n hx hb dX1_gains_90 rfl (lv_at hl 1 rfl) ?_
  obtain ⟨h8, hf⟩ := bq_cks hf
  refine bq_ild (j := x1.toNatClampNeg) (f := τ6 2) (q := 0) hx hb hK hP 13 rfl rfl h8 rfl dX1_gains_91 ?_
  obtain ⟨h9, hf⟩ := bq_cks hf
  refine bq_ild (j := ((τ6 2 x1.toNatClampNeg).toNatClampNeg)) (f := τ6 1) (q := 0) hx hb hK hP 12 rfl rfl h9 rfl dX1_gains_92 ?_
  refine lv_bipush (v := (10 : Int32)) hx hb dX1_gains_93 (by decide) ?_
  refine lv_aload_n hx hb dX1_gains_95 rfl (lv_at hl 0 rfl) ?_
  refine gX1_get (own := RX1) (fs := (bbF ba ca na ta ka ia β)) (v := .ref (ta 0)) hx hb hts hown hK hP (q0 := 0) rfl 4 (Nat.le_of_ble_eq_true rfl) (hts _ q759) rfl dX1_gains_96 ?_
  refine gX6_getN (own := RX1) (host := "BlueBag") (fs := (stF ta τ6)) (v := .int (τ6 0 8)) hx hb hts hown hK hP (q0 := 11) rfl 8 (Nat.le_of_ble_eq_true rfl) (bq_nF hamb hm 18 rfl) rfl dX1_gains_99 ?_
  obtain ⟨v10, hg, hf⟩ := bq_b1s hf
  refine bq_cS (bs := [bbB d ba ca na ta ka ia β, stB d na σ, stB d ta τ6, viB d ca ν7, coB d ca dy fa κ, lsB d ca L mc E.1, giB ca E.1 κ, P]) (bc := []) (br := [bbB d ba ca na ta ka ia β, stB d na σ, stB d ta τ6, viB d ca ν7, coB d ca dy fa κ, lsB d ca L mc E.1, giB ca E.1 κ, P]) (bc' := []) (bs' := [bbB d ba ca na ta ka ia β, stB d na σ, stB d ta τ6, viB d ca ν7, coB d ca dy fa κ, lsB d ca L mc E.1, giB ca E.1 κ, P]) (As := [.int (τ6 0 8)]) (rest := [.int (10 : Int32), .int (τ6 1 (τ6 2 x1.toNatClampNeg).toNatClampNeg)]) (o := (some (.int v10))) C hkc hks (met_jd_bits hok hg) (bq_pm [0, 1, 2, 3, 4, 5, 6, 7] rfl rfl rfl) (bq_pm [0, 1, 2, 3, 4, 5, 6, 7] rfl rfl rfl) (lw_S q1565 q935 q133 q936) (hd_J16_bitCount) (Nat.le_of_ble_eq_true rfl) (Nat.le_of_ble_eq_true rfl) rfl hl.1 rfl (Nat.le_of_ble_eq_true rfl) dX1_gains_102 hP hD hS (fun H locs hP hD hS => ?_)
  refine lv_imul hx hb dX1_gains_105 ?_
  refine lv_isub hx hb dX1_gains_106 ?_
  refine lv_iload_n hx hb dX1_gains_107 rfl (lv_at hl 2 rfl) ?_
  refine lv_if_eq (tgt := 115) hx hb dX1_gains_108 (by decide) (fun c11 => ?_) (fun c11 => ?_)
  · have hf := bq_ip c11 hf
    refine lv_iconst (v := (0 : Int32)) hx hb dX1_gains_115 (by decide) ?_
    refine lv_isub hx hb dX1_gains_116 ?_
    obtain ⟨rfl, rfl, rfl⟩ := bq_p3 hf
    exact bq_iret C hr hP hD hS dX1_gains_117
  · have hf := bq_in c11 hf
    refine lv_iconst (v := (2 : Int32)) hx hb dX1_gains_111 (by decide) ?_
    refine lv_goto (tgt := 116) hx hb dX1_gains_112 (by decide) ?_
    refine lv_isub hx hb dX1_gains_116 ?_
    obtain ⟨rfl, rfl, rfl⟩ := bq_p3 hf
    exact bq_iret C hr hP hD hS dX1_gains_117
set_option maxHeartbeats 4000000 in
theorem wk_bl_gains_J45 {p : Program} {e : Env} {R : Room} {s : State} {m : MethodId} {args : Array Value} {below : List Frame} {meth : Method} {c : Code} {A : Nat → Prop} {l : Launch} {D : va_G} {am : bqAm} {X vE sE : Nat → Nat} {d : Nat → ClassId} {ba ca ia ka na ta : Nat → Nat} {dy fa : Option Nat} {L : Nat} {mc : Int32} {P : va_W} {F : Nat} {E : bqE} (C : bq_C p R s m args meth c A D bqCl (bqTy d) am cX1_gains 5 RX1 805 24152) (hkc : 0 ≤ R.cells) (hks : 0 ≤ R.slots) (hamb : bq_Amb am X vE sE) (hE : bq_E P vE dy fa E) (hby : bq_By l D am d ca vE P 400) (hL : E.1 ≤ L ∧ L < 2147483648) (hr : meth.sig.returnType = (some .int)) (β : bqS) (σ : bqS) (τ : bqS) (ν : bqS) (κ : bqS) (x1 : Int32) (x2 : Int32) (x3 : Int32) (x4 : Int32) (r : Int32) (τ' : bqS) (ν' : bqS) (H : Heap) (locs : List Loc) :
      bl_gains_J45 F E β σ τ ν κ x1 x2 x3 x4 = some (r, τ', ν') → va_P D bqCl (List.flatten ([bbB d ba ca na ta ka ia β, stB d na σ, stB d ta τ, viB d ca ν, coB d ca dy fa κ, lsB d ca L mc E.1, giB ca E.1 κ, P] : List va_W)) H → va_D A (List.flatten ([bbB d ba ca na ta ka ia β, stB d na σ, stB d ta τ, viB d ca ν, coB d ca dy fa κ, lsB d ca L mc E.1, giB ca E.1 κ, P] : List va_W)) → va_S A s.heap H locs → ∀ ls : Array Slot, lv_has ls 5 [(0, .ref (ba 0)), (1, .int x1), (2, .int x2), (3, .int x3), (4, .int x4)] →
      W p l e R s m args below meth c H locs 0 0 (MQ below (bq_Q D bqCl (some (.int r)) (List.flatten ([bbB d ba ca na ta ka ia β, stB d na σ, stB d ta τ', viB d ca ν', coB d ca dy fa κ, lsB d ca L mc E.1, giB ca E.1 κ, P] : List va_W)) A) args s 0 0 A) (F0 m 45 ls []) := by
  have C0 := C
  obtain ⟨hx, hb, hown, hts, hml, hlocks, hA, hK, hm, hRf, hRl, hok⟩ := C
  have C := C0
  intro hf hP hD hS ls hl 
  unfold bl_gains_J45 at hf
  refine lv_iload hx hb dX1_gains_45 (lv_at hl 4 rfl) ?_
  refine lv_if_ne (tgt := 65) hx hb dX1_gains_47 (by decide) (fun c5 => ?_) (fun c5 => ?_)
  · have hf := bq_in c5 hf
    exact wk_bl_gains_J65 C hkc hks hamb hE hby hL hr _ _ _ _ _ _ _ _ _ _ _ _ hf hP hD hS ls (lv_sub hl [0, 1, 3] rfl)
  · have hf := bq_ip c5 hf
    refine lv_aload_n hx hb dX1_gains_50 rfl (lv_at hl 0 rfl) ?_
    refine gX1_get (own := RX1) (fs := (bbF ba ca na ta ka ia β)) (v := .ref (ta 0)) hx hb hts hown hK hP (q0 := 0) rfl 4 (Nat.le_of_ble_eq_true rfl) (hts _ q759) rfl dX1_gains_51 ?_
    refine lv_dup hx hb dX1_gains_54 rfl ?_
    refine gX6_getN (own := RX1) (host := "BlueBag") (fs := (stF ta τ)) (v := .int (τ 0 6)) hx hb hts hown hK hP (q0 := 11) rfl 6 (Nat.le_of_ble_eq_true rfl) (bq_nF hamb hm 14 rfl) rfl dX1_gains_55 ?_
    refine lv_iconst (v := (1 : Int32)) hx hb dX1_gains_58 (by decide) ?_
    refine lv_iload_n hx hb dX1_gains_59 rfl (lv_at hl 2 rfl) ?_
    refine lv_ishl hx hb dX1_gains_60 ?_
    refine lv_ior hx hb dX1_gains_61 ?_
    obtain ⟨τ12, eτ12, hf⟩ := bq_lts hf
    refine gX6_putN (own := RX1) (host := "BlueBag") (fs := (stF ta τ)) (ty := .int) (ws' := (List.flatten ([bbB d ba ca na ta ka ia β, stB d na σ, stB d ta (bq_up τ 0 6 ((τ 0 6) ||| ((1 : Int32) <<< (x2 &&& 31)))), viB d ca ν, coB d ca dy fa κ, lsB d ca L mc E.1, giB ca E.1 κ, P] : List va_W))) hx hb hts hown hK hP hD hS (q0 := 11) rfl 6 (Nat.le_of_ble_eq_true rfl) (bq_nF hamb hm 14 rfl) rfl rfl rfl rfl (Nat.le_of_ble_eq_true rfl) rfl dX1_gains_62 (fun H locs hP hD hS => ?_)
    rw [← eτ12] at hP hD
    exact wk_bl_gains_J65 C hkc hks hamb hE hby hL hr _ _ _ _ _ _ _ _ _ _ _ _ hf hP hD hS ls (lv_sub hl [0, 1, 3] rfl)
set_option maxHeartbeats 4000000 in
theorem met_bl_gains {l : Launch} {D : va_G} {am : bqAm} {X vE sE : Nat → Nat} {d : Nat → ClassId} {ba ca ia ka na ta : Nat → Nat} {dy fa : Option Nat} {L : Nat} {mc : Int32} {P : va_W} {F : Nat} {E : bqE} {β : bqS} {σ : bqS} {τ : bqS} {ν : bqS} {κ : bqS} {τ' : bqS} {ν' : bqS} {r : Int32} {x1 : Int32} {x2 : Int32} {x3 : Int32} {x4 : Int32} (hok : bq_Ok am) (hamb : bq_Amb am X vE sE) (hE : bq_E P vE dy fa E) (hby : bq_By l D am d ca vE P 400) (hL : E.1 ≤ L ∧ L < 2147483648) (hf : bl_gains F E β σ τ ν κ x1 x2 x3 x4 = some (r, τ', ν')) : bq_M l yX1_gains cX1_gains 5 (some .int) 805 24152 D bqCl (bqTy d) am [.ref (ba 0), .int x1, .int x2, .int x3, .int x4] (List.flatten ([bbB d ba ca na ta ka ia β, stB d na σ, stB d ta τ, viB d ca ν, coB d ca dy fa κ, lsB d ca L mc E.1, giB ca E.1 κ, P] : List va_W)) (some (.int r)) (List.flatten ([bbB d ba ca na ta ka ia β, stB d na σ, stB d ta τ', viB d ca ν', coB d ca dy fa κ, lsB d ca L mc E.1, giB ca E.1 κ, P] : List va_W)) := by
  unfold bl_gains at hf
  refine bq_of hok (by decide +kernel) (Nat.le_of_ble_eq_true rfl) ?_
  intro p e s m below meth c A ls C hr hP hD hS hl
  have C0 := C
  obtain ⟨hx, hb, hown, hts, hml, hlocks, hA, hK, hm, hRf, hRl, hok⟩ := C
  have C := C0
  have hkc := Nat.zero_le 0
  have hks := Nat.zero_le 0
  have hl : lv_has ls 5 [(0, .ref (ba 0)), (1, .int x1), (2, .int x2), (3, .int x3), (4, .int x4)] := hl
  refine lv_aload_n hx hb dX1_gains_0 rfl (lv_at hl 0 rfl) ?_
  refine lv_iconst (v := (0 : Int32)) hx hb dX1_gains_1 (by decide) ?_
  obtain ⟨τ1, ν2, hg, hf⟩ := bq_b2s hf
  refine bq_cV (bs := [bbB d ba ca na ta ka ia β, stB d na σ, stB d ta τ, viB d ca ν, coB d ca dy fa κ, lsB d ca L mc E.1, giB ca E.1 κ, P]) (bc := [bbB d ba ca na ta ka ia β, stB d na σ, stB d ta τ, viB d ca ν, coB d ca dy fa κ, lsB d ca L mc E.1, giB ca E.1 κ, P]) (br := []) (bc' := [bbB d ba ca na ta ka ia β, stB d na σ, stB d ta τ1, viB d ca ν2, coB d ca dy fa κ, lsB d ca L mc E.1, giB ca E.1 κ, P]) (bs' := [bbB d ba ca na ta ka ia β, stB d na σ, stB d ta τ1, viB d ca ν2, coB d ca dy fa κ, lsB d ca L mc E.1, giB ca E.1 κ, P]) (As := [.int (0 : Int32)]) (rest := []) (o := none) C hkc hks (met_bl_tries hok hamb hE hby hL hg) (bq_pm [0, 1, 2, 3, 4, 5, 6, 7] rfl rfl rfl) (bq_pm [0, 1, 2, 3, 4, 5, 6, 7] rfl rfl rfl) (lw_V q959 q961 qs10 q113 q962) (hd_X1_tries) (Nat.le_of_ble_eq_true rfl) (Nat.le_of_ble_eq_true rfl) (va_recv hK hP (ci := 1) (q0 := 0) rfl rfl) rfl hl.1 rfl (Nat.le_of_ble_eq_true rfl) dX1_gains_2 hP hD hS (fun H locs hP hD hS => ?_)
  refine lv_aload_n hx hb dX1_gains_5 rfl (lv_at hl 0 rfl) ?_
  refine gX1_get (own := RX1) (fs := (bbF ba ca na ta ka ia β)) (v := .ref (ta 0)) hx hb hts hown hK hP (q0 := 0) rfl 4 (Nat.le_of_ble_eq_true rfl) (hts _ q759) rfl dX1_gains_6 ?_
  refine lv_dup hx hb dX1_gains_9 rfl ?_
  refine gX6_getN (own := RX1) (host := "BlueBag") (fs := (stF ta τ1)) (v := .int (τ1 0 6)) hx hb hts hown hK hP (q0 := 11) rfl 6 (Nat.le_of_ble_eq_true rfl) (bq_nF hamb hm 14 rfl) rfl dX1_gains_10 ?_
  refine lv_iconst (v := (1 : Int32)) hx hb dX1_gains_13 (by decide) ?_
  refine lv_iload_n hx hb dX1_gains_14 rfl (lv_at hl 1 rfl) ?_
  refine lv_ishl hx hb dX1_gains_15 ?_
  refine lv_iconst (v := (1 : Int32)) hx hb dX1_gains_16 (by decide) ?_
  refine lv_iload_n hx hb dX1_gains_17 rfl (lv_at hl 2 rfl) ?_
  refine lv_ishl hx hb dX1_gains_18 ?_
  refine lv_ior hx hb dX1_gains_19 ?_
  refine lv_iconst (v := (-1 : Int32)) hx hb dX1_gains_20 (by decide) ?_
  refine lv_ixor hx hb dX1_gains_21 ?_
  refine lv_iand hx hb dX1_gains_22 ?_
  obtain ⟨τ3, eτ3, hf⟩ := bq_lts hf
  refine gX6_putN (own := RX1) (host := "BlueBag") (fs := (stF ta τ1)) (ty := .int) (ws' := (List.flatten ([bbB d ba ca na ta ka ia β, stB d na σ, stB d ta (bq_up τ1 0 6 ((τ1 0 6) &&& ((((1 : Int32) <<< (x1 &&& 31)) ||| ((1 : Int32) <<< (x2 &&& 31))) ^^^ (-1 : Int32)))), viB d ca ν2, coB d ca dy fa κ, lsB d ca L mc E.1, giB ca E.1 κ, P] : List va_W))) hx hb hts hown hK hP hD hS (q0 := 11) rfl 6 (Nat.le_of_ble_eq_true rfl) (bq_nF hamb hm 14 rfl) rfl rfl rfl rfl (Nat.le_of_ble_eq_true rfl) rfl dX1_gains_23 (fun H locs hP hD hS => ?_)
  rw [← eτ3] at hP hD
  refine lv_iload_n hx hb dX1_gains_26 rfl (lv_at hl 3 rfl) ?_
  refine lv_if_ne (tgt := 45) hx hb dX1_gains_27 (by decide) (fun c4 => ?_) (fun c4 => ?_)
  · have hf := bq_in c4 hf
    exact wk_bl_gains_J45 C hkc hks hamb hE hby hL hr _ _ _ _ _ _ _ _ _ _ _ _ _ _ hf hP hD hS ls (lv_sub hl [0, 1, 2, 3, 4] rfl)
  · have hf := bq_ip c4 hf
    refine lv_aload_n hx hb dX1_gains_30 rfl (lv_at hl 0 rfl) ?_
    refine gX1_get (own := RX1) (fs := (bbF ba ca na ta ka ia β)) (v := .ref (ta 0)) hx hb hts hown hK hP (q0 := 0) rfl 4 (Nat.le_of_ble_eq_true rfl) (hts _ q759) rfl dX1_gains_31 ?_
    refine lv_dup hx hb dX1_gains_34 rfl ?_
    refine gX6_getN (own := RX1) (host := "BlueBag") (fs := (stF ta τ3)) (v := .int (τ3 0 6)) hx hb hts hown hK hP (q0 := 11) rfl 6 (Nat.le_of_ble_eq_true rfl) (bq_nF hamb hm 14 rfl) rfl dX1_gains_35 ?_
    refine lv_iconst (v := (1 : Int32)) hx hb dX1_gains_38 (by decide) ?_
    refine lv_iload_n hx hb dX1_gains_39 rfl (lv_at hl 1 rfl) ?_
    refine lv_ishl hx hb dX1_gains_40 ?_
    refine lv_ior hx hb dX1_gains_41 ?_
    obtain ⟨τ13, eτ13, hf⟩ := bq_lts hf
    refine gX6_putN (own := RX1) (host := "BlueBag") (fs := (stF ta τ3)) (ty := .int) (ws' := (List.flatten ([bbB d ba ca na ta ka ia β, stB d na σ, stB d ta (bq_up τ3 0 6 ((τ3 0 6) ||| ((1 : Int32) <<< (x1 &&& 31)))), viB d ca ν2, coB d ca dy fa κ, lsB d ca L mc E.1, giB ca E.1 κ, P] : List va_W))) hx hb hts hown hK hP hD hS (q0 := 11) rfl 6 (Nat.le_of_ble_eq_true rfl) (bq_nF hamb hm 14 rfl) rfl rfl rfl rfl (Nat.le_of_ble_eq_true rfl) rfl dX1_gains_42 (fun H locs hP hD hS => ?_)
    rw [← eτ13] at hP hD
    exact wk_bl_gains_J45 C hkc hks hamb hE hby hL hr _ _ _ _ _ _ _ _ _ _ _ _ _ _ hf hP hD hS ls (lv_sub hl [0, 1, 2, 3, 4] rfl)
set_option maxHeartbeats 4000000 in
theorem wk_bl_game_L43 {p : Program} {e : Env} {R : Room} {s : State} {m : MethodId} {args : Array Value} {below : List Frame} {meth : Method} {c : Code} {A : Nat → Prop} {kc ks : Nat} {Q : State → Prop} {l : Launch} {D : va_G} {am : bqAm} {X vE sE : Nat → Nat} {d : Nat → ClassId} {ba ca ia ka na ta : Nat → Nat} {dy fa : Option Nat} {L : Nat} {mc : Int32} {P : va_W} {F : Nat} {E : bqE} (C : bq_C p R s m args meth c A D bqCl (bqTy d) am cX1_game 9 RX1 806 24176) (hkc : kc ≤ R.cells) (hks : ks ≤ R.slots) (hamb : bq_Amb am X vE sE) (hst : l.stackTraces = false) (hE : bq_E P vE dy fa E) (hby : bq_By l D am d ca vE P 400) (hL : E.1 ≤ L ∧ L < 2147483648) {β : bqS} {σ : bqS} {κ : bqS} {x3 : Int32} :
    ∀ (k : Nat) (x1 : Int32) (x2 : Int32) (x4 : Int32) (x5 : Int32) (x6 : Int32) (τ : bqS) (ν : bqS) (y4 : Int32) (y5 : Int32) (τ' : bqS) (ν' : bqS) (H : Heap) (locs : List Loc), bl_game_L43 F E β σ κ k x1 x2 x4 x5 x6 τ ν = some (y4, y5, τ', ν') → va_P D bqCl (List.flatten ([bbB d ba ca na ta ka ia β, stB d na σ, stB d ta τ, viB d ca ν, coB d ca dy fa κ, lsB d ca L mc E.1, giB ca E.1 κ, P] : List va_W)) H → va_D A (List.flatten ([bbB d ba ca na ta ka ia β, stB d na σ, stB d ta τ, viB d ca ν, coB d ca dy fa κ, lsB d ca L mc E.1, giB ca E.1 κ, P] : List va_W)) → va_S A s.heap H locs → ∀ ls : Array Slot, lv_has ls 9 [(0, .ref (ba 0)), (1, .int x1), (2, .int x2), (3, .int x3), (4, .int x4), (5, .int x5), (6, .int x6)] →
      (∀ (H : Heap) (locs : List Loc), va_P D bqCl (List.flatten ([bbB d ba ca na ta ka ia β, stB d na σ, stB d ta τ', viB d ca ν', coB d ca dy fa κ, lsB d ca L mc E.1, giB ca E.1 κ, P] : List va_W)) H → va_D A (List.flatten ([bbB d ba ca na ta ka ia β, stB d na σ, stB d ta τ', viB d ca ν', coB d ca dy fa κ, lsB d ca L mc E.1, giB ca E.1 κ, P] : List va_W)) → va_S A s.heap H locs → ∀ ls : Array Slot, lv_has ls 9 [(3, .int x3), (4, .int y4), (5, .int y5)] → W p l e R s m args below meth c H locs kc ks Q (F0 m 171 ls [])) →
      W p l e R s m args below meth c H locs kc ks Q (F0 m 43 ls []) := by
  have C0 := C
  obtain ⟨hx, hb, hown, hts, hml, hlocks, hA, hK, hm, hRf, hRl, hok⟩ := C
  have C := C0
  intro k
  induction k with
  | zero => intro x1 x2 x4 x5 x6 τ ν y4 y5 τ' ν' H locs hf
            cases hf
  | succ k ih =>
    intro x1 x2 x4 x5 x6 τ ν y4 y5 τ' ν' H locs hf hP hD hS ls hl hk0
    rw [bl_game_L43] at hf
    refine lv_iload hx hb dX1_game_43 (lv_at hl 6 rfl) ?_
    refine lv_iconst (v := (4 : Int32)) hx hb dX1_game_45 (by decide) ?_
    refine lv_icmp_ge (tgt := 171) hx hb dX1_game_46 (by decide) (fun c7 => ?_) (fun c7 => ?_)
    · have hf := bq_ip c7 hf
      obtain ⟨rfl, rfl, rfl, rfl⟩ := bq_p4 hf
      exact hk0 _ _ hP hD hS ls (lv_sub hl [3, 4, 5] rfl)
    · have hf := bq_in c7 hf
      refine lv_iload hx hb dX1_game_49 (lv_at hl 6 rfl) ?_
      refine lv_iconst (v := (1 : Int32)) hx hb dX1_game_51 (by decide) ?_
      refine lv_icmp_le (tgt := 59) hx hb dX1_game_52 (by decide) (fun c8 => ?_) (fun c8 => ?_)
      · have hf := bq_ip c8 hf
        refine lv_iconst (v := (0 : Int32)) hx hb dX1_game_59 (by decide) ?_
        refine lv_istore (lv' := [(7, .int (0 : Int32)), (0, .ref (ba 0)), (1, .int x1), (2, .int x2), (3, .int x3), (4, .int x4), (5, .int x5), (6, .int x6)]) hx hb dX1_game_60 hl (by decide) rfl (fun ls hl => ?_)
        refine lv_iload hx hb dX1_game_62 (lv_at hl 7 rfl) ?_
        refine lv_iconst (v := (2 : Int32)) hx hb dX1_game_64 (by decide) ?_
        refine lv_irem hx hb dX1_game_65 (by decide) ?_
        refine lv_iconst (v := (1 : Int32)) hx hb dX1_game_66 (by decide) ?_
        refine lv_icmp_ne (tgt := 74) hx hb dX1_game_67 (by decide) (fun c9 => ?_) (fun c9 => ?_)
        · have hf := bq_in c9 hf
          refine lv_iconst (v := (0 : Int32)) hx hb dX1_game_74 (by decide) ?_
          refine lv_istore (lv' := [(8, .int (0 : Int32)), (7, .int (0 : Int32)), (0, .ref (ba 0)), (1, .int x1), (2, .int x2), (3, .int x3), (4, .int x4), (5, .int x5), (6, .int x6)]) hx hb dX1_game_75 hl (by decide) rfl (fun ls hl => ?_)
          refine lv_aload_n hx hb dX1_game_77 rfl (lv_at hl 2 rfl) ?_
          refine lv_iload_n hx hb dX1_game_78 rfl (lv_at hl 3 rfl) ?_
          refine lv_iload_n hx hb dX1_game_79 rfl (lv_at hl 4 rfl) ?_
          refine lv_iload hx hb dX1_game_80 (lv_at hl 1 rfl) ?_
          refine lv_if_ne (tgt := 89) hx hb dX1_game_82 (by decide) (fun c10 => ?_) (fun c10 => ?_)
          · have hf := bq_in c10 hf
            refine lv_iconst (v := (0 : Int32)) hx hb dX1_game_89 (by decide) ?_
            refine lv_iload hx hb dX1_game_90 (lv_at hl 0 rfl) ?_
            obtain ⟨v11, τ12, ν13, hg, hf⟩ := bq_b3s hf
            refine bq_cV (bs := [bbB d ba ca na ta ka ia β, stB d na σ, stB d ta τ, viB d ca ν, coB d ca dy fa κ, lsB d ca L mc E.1, giB ca E.1 κ, P]) (bc := [bbB d ba ca na ta ka ia β, stB d na σ, stB d ta τ, viB d ca ν, coB d ca dy fa κ, lsB d ca L mc E.1, giB ca E.1 κ, P]) (br := []) (bc' := [bbB d ba ca na ta ka ia β, stB d na σ, stB d ta τ12, viB d ca ν13, coB d ca dy fa κ, lsB d ca L mc E.1, giB ca E.1 κ, P]) (bs' := [bbB d ba ca na ta ka ia β, stB d na σ, stB d ta τ12, viB d ca ν13, coB d ca dy fa κ, lsB d ca L mc E.1, giB ca E.1 κ, P]) (As := [.int x1, .int x2, .int (0 : Int32), .int (0 : Int32)]) (rest := []) (o := (some (.int v11))) C hkc hks (met_bl_gains hok hamb hE hby hL hg) (bq_pm [0, 1, 2, 3, 4, 5, 6, 7] rfl rfl rfl) (bq_pm [0, 1, 2, 3, 4, 5, 6, 7] rfl rfl rfl) (lw_V q1650 q1652 qs46 q113 q1653) (hd_X1_gains) (Nat.le_of_ble_eq_true rfl) (Nat.le_of_ble_eq_true rfl) (va_recv hK hP (ci := 1) (q0 := 0) rfl rfl) rfl hl.1 rfl (Nat.le_of_ble_eq_true rfl) dX1_game_92 hP hD hS (fun H locs hP hD hS => ?_)
            refine lv_aload_n hx hb dX1_game_95 rfl (lv_at hl 2 rfl) ?_
            refine lv_iload_n hx hb dX1_game_96 rfl (lv_at hl 3 rfl) ?_
            refine lv_iload_n hx hb dX1_game_97 rfl (lv_at hl 4 rfl) ?_
            refine lv_iload hx hb dX1_game_98 (lv_at hl 1 rfl) ?_
            refine lv_iload hx hb dX1_game_100 (lv_at hl 0 rfl) ?_
            obtain ⟨v14, τ15, ν16, hg, hf⟩ := bq_b3s hf
            refine bq_cV (bs := [bbB d ba ca na ta ka ia β, stB d na σ, stB d ta τ12, viB d ca ν13, coB d ca dy fa κ, lsB d ca L mc E.1, giB ca E.1 κ, P]) (bc := [bbB d ba ca na ta ka ia β, stB d na σ, stB d ta τ12, viB d ca ν13, coB d ca dy fa κ, lsB d ca L mc E.1, giB ca E.1 κ, P]) (br := []) (bc' := [bbB d ba ca na ta ka ia β, stB d na σ, stB d ta τ15, viB d ca ν16, coB d ca dy fa κ, lsB d ca L mc E.1, giB ca E.1 κ, P]) (bs' := [bbB d ba ca na ta ka ia β, stB d na σ, stB d ta τ15, viB d ca ν16, coB d ca dy fa κ, lsB d ca L mc E.1, giB ca E.1 κ, P]) (As := [.int x1, .int x2, .int (0 : Int32), .int (0 : Int32)]) (rest := [.int v11]) (o := (some (.int v14))) C hkc hks (met_bl_gains hok hamb hE hby hL hg) (bq_pm [0, 1, 2, 3, 4, 5, 6, 7] rfl rfl rfl) (bq_pm [0, 1, 2, 3, 4, 5, 6, 7] rfl rfl rfl) (lw_V q1650 q1652 qs46 q113 q1653) (hd_X1_gains) (Nat.le_of_ble_eq_true rfl) (Nat.le_of_ble_eq_true rfl) (va_recv hK hP (ci := 1) (q0 := 0) rfl rfl) rfl hl.1 rfl (Nat.le_of_ble_eq_true rfl) dX1_game_102 hP hD hS (fun H locs hP hD hS => ?_)
            refine lv_icmp_gt (tgt := 165) hx hb dX1_game_105 (by decide) (fun c17 => ?_) (fun c17 => ?_)
            · have hf := bq_ip c17 hf
              obtain ⟨v18, ev18, hf⟩ := bq_lts hf
              refine lv_iinc (v := v18) (lv' := [(6, .int v18), (8, .int (0 : Int32)), (7, .int (0 : Int32)), (0, .ref (ba 0)), (1, .int x1), (2, .int x2), (3, .int x3), (4, .int x4), (5, .int x5)]) hx hb dX1_game_165 hl (k := 8) rfl (bq_inc (by decide) ev18) (by decide) rfl (fun ls hl => ?_)
              refine lv_goto (tgt := 43) hx hb dX1_game_168 (by decide) ?_
              exact ih _ _ _ _ _ _ _ _ _ _ _ _ _ hf hP hD hS ls (lv_sub hl [3, 4, 5, 6, 7, 8, 0] rfl) hk0
            · have hf := bq_in c17 hf
              refine lv_aload_n hx hb dX1_game_108 rfl (lv_at hl 2 rfl) ?_
              refine lv_iload_n hx hb dX1_game_109 rfl (lv_at hl 4 rfl) ?_
              refine lv_iload_n hx hb dX1_game_110 rfl (lv_at hl 3 rfl) ?_
              refine lv_iload hx hb dX1_game_111 (lv_at hl 0 rfl) ?_
              refine lv_if_ne (tgt := 120) hx hb dX1_game_113 (by decide) (fun c19 => ?_) (fun c19 => ?_)
              · have hf := bq_in c19 hf
                refine lv_iconst (v := (0 : Int32)) hx hb dX1_game_120 (by decide) ?_
                refine lv_iload hx hb dX1_game_121 (lv_at hl 1 rfl) ?_
                obtain ⟨v20, τ21, ν22, hg, hf⟩ := bq_b3s hf
                refine bq_cV (bs := [bbB d ba ca na ta ka ia β, stB d na σ, stB d ta τ15, viB d ca ν16, coB d ca dy fa κ, lsB d ca L mc E.1, giB ca E.1 κ, P]) (bc := [bbB d ba ca na ta ka ia β, stB d na σ, stB d ta τ15, viB d ca ν16, coB d ca dy fa κ, lsB d ca L mc E.1, giB ca E.1 κ, P]) (br := []) (bc' := [bbB d ba ca na ta ka ia β, stB d na σ, stB d ta τ21, viB d ca ν22, coB d ca dy fa κ, lsB d ca L mc E.1, giB ca E.1 κ, P]) (bs' := [bbB d ba ca na ta ka ia β, stB d na σ, stB d ta τ21, viB d ca ν22, coB d ca dy fa κ, lsB d ca L mc E.1, giB ca E.1 κ, P]) (As := [.int x2, .int x1, .int (0 : Int32), .int (0 : Int32)]) (rest := []) (o := (some (.int v20))) C hkc hks (met_bl_gains hok hamb hE hby hL hg) (bq_pm [0, 1, 2, 3, 4, 5, 6, 7] rfl rfl rfl) (bq_pm [0, 1, 2, 3, 4, 5, 6, 7] rfl rfl rfl) (lw_V q1650 q1652 qs46 q113 q1653) (hd_X1_gains) (Nat.le_of_ble_eq_true rfl) (Nat.le_of_ble_eq_true rfl) (va_recv hK hP (ci := 1) (q0 := 0) rfl rfl) rfl hl.1 rfl (Nat.le_of_ble_eq_true rfl) dX1_game_123 hP hD hS (fun H locs hP hD hS => ?_)
                refine lv_aload_n hx hb dX1_game_126 rfl (lv_at hl 2 rfl) ?_
                refine lv_iload_n hx hb dX1_game_127 rfl (lv_at hl 4 rfl) ?_
                refine lv_iload_n hx hb dX1_game_128 rfl (lv_at hl 3 rfl) ?_
                refine lv_iload hx hb dX1_game_129 (lv_at hl 0 rfl) ?_
                refine lv_iload hx hb dX1_game_131 (lv_at hl 1 rfl) ?_
                obtain ⟨v23, τ24, ν25, hg, hf⟩ := bq_b3s hf
                refine bq_cV (bs := [bbB d ba ca na ta ka ia β, stB d na σ, stB d ta τ21, viB d ca ν22, coB d ca dy fa κ, lsB d ca L mc E.1, giB ca E.1 κ, P]) (bc := [bbB d ba ca na ta ka ia β, stB d na σ, stB d ta τ21, viB d ca ν22, coB d ca dy fa κ, lsB d ca L mc E.1, giB ca E.1 κ, P]) (br := []) (bc' := [bbB d ba ca na ta ka ia β, stB d na σ, stB d ta τ24, viB d ca ν25, coB d ca dy fa κ, lsB d ca L mc E.1, giB ca E.1 κ, P]) (bs' := [bbB d ba ca na ta ka ia β, stB d na σ, stB d ta τ24, viB d ca ν25, coB d ca dy fa κ, lsB d ca L mc E.1, giB ca E.1 κ, P]) (As := [.int x2, .int x1, .int (0 : Int32), .int (0 : Int32)]) (rest := [.int v20]) (o := (some (.int v23))) C hkc hks (met_bl_gains hok hamb hE hby hL hg) (bq_pm [0, 1, 2, 3, 4, 5, 6, 7] rfl rfl rfl) (bq_pm [0, 1, 2, 3, 4, 5, 6, 7] rfl rfl rfl) (lw_V q1650 q1652 qs46 q113 q1653) (hd_X1_gains) (Nat.le_of_ble_eq_true rfl) (Nat.le_of_ble_eq_true rfl) (va_recv hK hP (ci := 1) (q0 := 0) rfl rfl) rfl hl.1 rfl (Nat.le_of_ble_eq_true rfl) dX1_game_133 hP hD hS (fun H locs hP hD hS => ?_)
                refine lv_icmp_le (tgt := 142) hx hb dX1_game_136 (by decide) (fun c26 => ?_) (fun c26 => ?_)
                · have hf := bq_ip c26 hf
                  obtain ⟨v27, ev27, hf⟩ := bq_lts hf
                  refine lv_iinc (v := v27) (lv' := [(4, .int v27), (8, .int (0 : Int32)), (7, .int (0 : Int32)), (0, .ref (ba 0)), (1, .int x1), (2, .int x2), (3, .int x3), (5, .int x5), (6, .int x6)]) hx hb dX1_game_142 hl (k := 6) rfl (bq_inc (by decide) ev27) (by decide) rfl (fun ls hl => ?_)
                  refine lv_iload hx hb dX1_game_145 (lv_at hl 7 rfl) ?_
                  refine lv_iconst (v := (-1 : Int32)) hx hb dX1_game_147 (by decide) ?_
                  refine lv_icmp_ne (tgt := 165) hx hb dX1_game_148 (by decide) (fun c28 => ?_) (fun c28 => ?_)
                  · have hf := bq_in c28 hf
                    obtain ⟨v29, ev29, hf⟩ := bq_lts hf
                    refine lv_iinc (v := v29) (lv' := [(6, .int v29), (4, .int v27), (8, .int (0 : Int32)), (7, .int (0 : Int32)), (0, .ref (ba 0)), (1, .int x1), (2, .int x2), (3, .int x3), (5, .int x5)]) hx hb dX1_game_165 hl (k := 8) rfl (bq_inc (by decide) ev29) (by decide) rfl (fun ls hl => ?_)
                    refine lv_goto (tgt := 43) hx hb dX1_game_168 (by decide) ?_
                    exact ih _ _ _ _ _ _ _ _ _ _ _ _ _ hf hP hD hS ls (lv_sub hl [4, 5, 6, 7, 1, 8, 0] rfl) hk0
                  · have hf := bq_ip c28 hf
                    refine lv_iload hx hb dX1_game_151 (lv_at hl 8 rfl) ?_
                    refine lv_iconst (v := (2 : Int32)) hx hb dX1_game_153 (by decide) ?_
                    refine lv_idiv hx hb dX1_game_154 (by decide) ?_
                    refine lv_bipush (v := (10 : Int32)) hx hb dX1_game_155 (by decide) ?_
                    refine lv_imul hx hb dX1_game_157 ?_
                    refine lv_iload hx hb dX1_game_158 (lv_at hl 8 rfl) ?_
                    refine lv_iconst (v := (2 : Int32)) hx hb dX1_game_160 (by decide) ?_
                    refine lv_irem hx hb dX1_game_161 (by decide) ?_
                    refine lv_iadd hx hb dX1_game_162 ?_
                    obtain ⟨v30, ev30, hf⟩ := bq_lts hf
                    refine bq_tope ev30 ?_
                    refine lv_istore (lv' := [(5, .int v30), (4, .int v27), (8, .int (0 : Int32)), (7, .int (0 : Int32)), (0, .ref (ba 0)), (1, .int x1), (2, .int x2), (3, .int x3), (6, .int x6)]) hx hb dX1_game_163 hl (by decide) rfl (fun ls hl => ?_)
                    obtain ⟨v31, ev31, hf⟩ := bq_lts hf
                    refine lv_iinc (v := v31) (lv' := [(6, .int v31), (5, .int v30), (4, .int v27), (8, .int (0 : Int32)), (7, .int (0 : Int32)), (0, .ref (ba 0)), (1, .int x1), (2, .int x2), (3, .int x3)]) hx hb dX1_game_165 hl (k := 8) rfl (bq_inc (by decide) ev31) (by decide) rfl (fun ls hl => ?_)
                    refine lv_goto (tgt := 43) hx hb dX1_game_168 (by decide) ?_
                    exact ih _ _ _ _ _ _ _ _ _ _ _ _ _ hf hP hD hS ls (lv_sub hl [5, 6, 7, 8, 2, 1, 0] rfl) hk0
                · have hf := bq_in c26 hf
                  refine lv_goto (tgt := 165) hx hb dX1_game_139 (by decide) ?_
                  obtain ⟨v32, ev32, hf⟩ := bq_lts hf
                  refine lv_iinc (v := v32) (lv' := [(6, .int v32), (8, .int (0 : Int32)), (7, .int (0 : Int32)), (0, .ref (ba 0)), (1, .int x1), (2, .int x2), (3, .int x3), (4, .int x4), (5, .int x5)]) hx hb dX1_game_165 hl (k := 8) rfl (bq_inc (by decide) ev32) (by decide) rfl (fun ls hl => ?_)
                  refine lv_goto (tgt := 43) hx hb dX1_game_168 (by decide) ?_
                  exact ih _ _ _ _ _ _ _ _ _ _ _ _ _ hf hP hD hS ls (lv_sub hl [3, 4, 5, 6, 7, 8, 0] rfl) hk0
              · have hf := bq_ip c19 hf
                refine lv_iconst (v := (1 : Int32)) hx hb dX1_game_116 (by decide) ?_
                refine lv_goto (tgt := 121) hx hb dX1_game_117 (by decide) ?_
                refine lv_iload hx hb dX1_game_121 (lv_at hl 1 rfl) ?_
                obtain ⟨v33, τ34, ν35, hg, hf⟩ := bq_b3s hf
                refine bq_cV (bs := [bbB d ba ca na ta ka ia β, stB d na σ, stB d ta τ15, viB d ca ν16, coB d ca dy fa κ, lsB d ca L mc E.1, giB ca E.1 κ, P]) (bc := [bbB d ba ca na ta ka ia β, stB d na σ, stB d ta τ15, viB d ca ν16, coB d ca dy fa κ, lsB d ca L mc E.1, giB ca E.1 κ, P]) (br := []) (bc' := [bbB d ba ca na ta ka ia β, stB d na σ, stB d ta τ34, viB d ca ν35, coB d ca dy fa κ, lsB d ca L mc E.1, giB ca E.1 κ, P]) (bs' := [bbB d ba ca na ta ka ia β, stB d na σ, stB d ta τ34, viB d ca ν35, coB d ca dy fa κ, lsB d ca L mc E.1, giB ca E.1 κ, P]) (As := [.int x2, .int x1, .int (1 : Int32), .int (0 : Int32)]) (rest := []) (o := (some (.int v33))) C hkc hks (met_bl_gains hok hamb hE hby hL hg) (bq_pm [0, 1, 2, 3, 4, 5, 6, 7] rfl rfl rfl) (bq_pm [0, 1, 2, 3, 4, 5, 6, 7] rfl rfl rfl) (lw_V q1650 q1652 qs46 q113 q1653) (hd_X1_gains) (Nat.le_of_ble_eq_true rfl) (Nat.le_of_ble_eq_true rfl) (va_recv hK hP (ci := 1) (q0 := 0) rfl rfl) rfl hl.1 rfl (Nat.le_of_ble_eq_true rfl) dX1_game_123 hP hD hS (fun H locs hP hD hS => ?_)
                refine lv_aload_n hx hb dX1_game_126 rfl (lv_at hl 2 rfl) ?_
                refine lv_iload_n hx hb dX1_game_127 rfl (lv_at hl 4 rfl) ?_
                refine lv_iload_n hx hb dX1_game_128 rfl (lv_at hl 3 rfl) ?_
                refine lv_iload hx hb dX1_game_129 (lv_at hl 0 rfl) ?_
                refine lv_iload hx hb dX1_game_131 (lv_at hl 1 rfl) ?_
                obtain ⟨v36, τ37, ν38, hg, hf⟩ := bq_b3s hf
                refine bq_cV (bs := [bbB d ba ca na ta ka ia β, stB d na σ, stB d ta τ34, viB d ca ν35, coB d ca dy fa κ, lsB d ca L mc E.1, giB ca E.1 κ, P]) (bc := [bbB d ba ca na ta ka ia β, stB d na σ, stB d ta τ34, viB d ca ν35, coB d ca dy fa κ, lsB d ca L mc E.1, giB ca E.1 κ, P]) (br := []) (bc' := [bbB d ba ca na ta ka ia β, stB d na σ, stB d ta τ37, viB d ca ν38, coB d ca dy fa κ, lsB d ca L mc E.1, giB ca E.1 κ, P]) (bs' := [bbB d ba ca na ta ka ia β, stB d na σ, stB d ta τ37, viB d ca ν38, coB d ca dy fa κ, lsB d ca L mc E.1, giB ca E.1 κ, P]) (As := [.int x2, .int x1, .int (0 : Int32), .int (0 : Int32)]) (rest := [.int v33]) (o := (some (.int v36))) C hkc hks (met_bl_gains hok hamb hE hby hL hg) (bq_pm [0, 1, 2, 3, 4, 5, 6, 7] rfl rfl rfl) (bq_pm [0, 1, 2, 3, 4, 5, 6, 7] rfl rfl rfl) (lw_V q1650 q1652 qs46 q113 q1653) (hd_X1_gains) (Nat.le_of_ble_eq_true rfl) (Nat.le_of_ble_eq_true rfl) (va_recv hK hP (ci := 1) (q0 := 0) rfl rfl) rfl hl.1 rfl (Nat.le_of_ble_eq_true rfl) dX1_game_133 hP hD hS (fun H locs hP hD hS => ?_)
                refine lv_icmp_le (tgt := 142) hx hb dX1_game_136 (by decide) (fun c39 => ?_) (fun c39 => ?_)
                · have hf := bq_ip c39 hf
                  obtain ⟨v40, ev40, hf⟩ := bq_lts hf
                  refine lv_iinc (v := v40) (lv' := [(4, .int v40), (8, .int (0 : Int32)), (7, .int (0 : Int32)), (0, .ref (ba 0)), (1, .int x1), (2, .int x2), (3, .int x3), (5, .int x5), (6, .int x6)]) hx hb dX1_game_142 hl (k := 6) rfl (bq_inc (by decide) ev40) (by decide) rfl (fun ls hl => ?_)
                  refine lv_iload hx hb dX1_game_145 (lv_at hl 7 rfl) ?_
                  refine lv_iconst (v := (-1 : Int32)) hx hb dX1_game_147 (by decide) ?_
                  refine lv_icmp_ne (tgt := 165) hx hb dX1_game_148 (by decide) (fun c41 => ?_) (fun c41 => ?_)
                  · have hf := bq_in c41 hf
                    obtain ⟨v42, ev42, hf⟩ := bq_lts hf
                    refine lv_iinc (v := v42) (lv' := [(6, .int v42), (4, .int v40), (8, .int (0 : Int32)), (7, .int (0 : Int32)), (0, .ref (ba 0)), (1, .int x1), (2, .int x2), (3, .int x3), (5, .int x5)]) hx hb dX1_game_165 hl (k := 8) rfl (bq_inc (by decide) ev42) (by decide) rfl (fun ls hl => ?_)
                    refine lv_goto (tgt := 43) hx hb dX1_game_168 (by decide) ?_
                    exact ih _ _ _ _ _ _ _ _ _ _ _ _ _ hf hP hD hS ls (lv_sub hl [4, 5, 6, 7, 1, 8, 0] rfl) hk0
                  · have hf := bq_ip c41 hf
                    refine lv_iload hx hb dX1_game_151 (lv_at hl 8 rfl) ?_
                    refine lv_iconst (v := (2 : Int32)) hx hb dX1_game_153 (by decide) ?_
                    refine lv_idiv hx hb dX1_game_154 (by decide) ?_
                    refine lv_bipush (v := (10 : Int32)) hx hb dX1_game_155 (by decide) ?_
                    refine lv_imul hx hb dX1_game_157 ?_
                    refine lv_iload hx hb dX1_game_158 (lv_at hl 8 rfl) ?_
                    refine lv_iconst (v := (2 : Int32)) hx hb dX1_game_160 (by decide) ?_
                    refine lv_irem hx hb dX1_game_161 (by decide) ?_
                    refine lv_iadd hx hb dX1_game_162 ?_
                    obtain ⟨v43, ev43, hf⟩ := bq_lts hf
                    refine bq_tope ev43 ?_
                    refine lv_istore (lv' := [(5, .int v43), (4, .int v40), (8, .int (0 : Int32)), (7, .int (0 : Int32)), (0, .ref (ba 0)), (1, .int x1), (2, .int x2), (3, .int x3), (6, .int x6)]) hx hb dX1_game_163 hl (by decide) rfl (fun ls hl => ?_)
                    obtain ⟨v44, ev44, hf⟩ := bq_lts hf
                    refine lv_iinc (v := v44) (lv' := [(6, .int v44), (5, .int v43), (4, .int v40), (8, .int (0 : Int32)), (7, .int (0 : Int32)), (0, .ref (ba 0)), (1, .int x1), (2, .int x2), (3, .int x3)]) hx hb dX1_game_165 hl (k := 8) rfl (bq_inc (by decide) ev44) (by decide) rfl (fun ls hl => ?_)
                    refine lv_goto (tgt := 43) hx hb dX1_game_168 (by decide) ?_
                    exact ih _ _ _ _ _ _ _ _ _ _ _ _ _ hf hP hD hS ls (lv_sub hl [5, 6, 7, 8, 2, 1, 0] rfl) hk0
                · have hf := bq_in c39 hf
                  refine lv_goto (tgt := 165) hx hb dX1_game_139 (by decide) ?_
                  obtain ⟨v45, ev45, hf⟩ := bq_lts hf
                  refine lv_iinc (v := v45) (lv' := [(6, .int v45), (8, .int (0 : Int32)), (7, .int (0 : Int32)), (0, .ref (ba 0)), (1, .int x1), (2, .int x2), (3, .int x3), (4, .int x4), (5, .int x5)]) hx hb dX1_game_165 hl (k := 8) rfl (bq_inc (by decide) ev45) (by decide) rfl (fun ls hl => ?_)
                  refine lv_goto (tgt := 43) hx hb dX1_game_168 (by decide) ?_
                  exact ih _ _ _ _ _ _ _ _ _ _ _ _ _ hf hP hD hS ls (lv_sub hl [3, 4, 5, 6, 7, 8, 0] rfl) hk0
          · have hf := bq_ip c10 hf
            refine lv_iconst (v := (1 : Int32)) hx hb dX1_game_85 (by decide) ?_
            refine lv_goto (tgt := 90) hx hb dX1_game_86 (by decide) ?_
            refine lv_iload hx hb dX1_game_90 (lv_at hl 0 rfl) ?_
            obtain ⟨v46, τ47, ν48, hg, hf⟩ := bq_b3s hf
            refine bq_cV (bs := [bbB d ba ca na ta ka ia β, stB d na σ, stB d ta τ, viB d ca ν, coB d ca dy fa κ, lsB d ca L mc E.1, giB ca E.1 κ, P]) (bc := [bbB d ba ca na ta ka ia β, stB d na σ, stB d ta τ, viB d ca ν, coB d ca dy fa κ, lsB d ca L mc E.1, giB ca E.1 κ, P]) (br := []) (bc' := [bbB d ba ca na ta ka ia β, stB d na σ, stB d ta τ47, viB d ca ν48, coB d ca dy fa κ, lsB d ca L mc E.1, giB ca E.1 κ, P]) (bs' := [bbB d ba ca na ta ka ia β, stB d na σ, stB d ta τ47, viB d ca ν48, coB d ca dy fa κ, lsB d ca L mc E.1, giB ca E.1 κ, P]) (As := [.int x1, .int x2, .int (1 : Int32), .int (0 : Int32)]) (rest := []) (o := (some (.int v46))) C hkc hks (met_bl_gains hok hamb hE hby hL hg) (bq_pm [0, 1, 2, 3, 4, 5, 6, 7] rfl rfl rfl) (bq_pm [0, 1, 2, 3, 4, 5, 6, 7] rfl rfl rfl) (lw_V q1650 q1652 qs46 q113 q1653) (hd_X1_gains) (Nat.le_of_ble_eq_true rfl) (Nat.le_of_ble_eq_true rfl) (va_recv hK hP (ci := 1) (q0 := 0) rfl rfl) rfl hl.1 rfl (Nat.le_of_ble_eq_true rfl) dX1_game_92 hP hD hS (fun H locs hP hD hS => ?_)
            refine lv_aload_n hx hb dX1_game_95 rfl (lv_at hl 2 rfl) ?_
            refine lv_iload_n hx hb dX1_game_96 rfl (lv_at hl 3 rfl) ?_
            refine lv_iload_n hx hb dX1_game_97 rfl (lv_at hl 4 rfl) ?_
            refine lv_iload hx hb dX1_game_98 (lv_at hl 1 rfl) ?_
            refine lv_iload hx hb dX1_game_100 (lv_at hl 0 rfl) ?_
            obtain ⟨v49, τ50, ν51, hg, hf⟩ := bq_b3s hf
            refine bq_cV (bs := [bbB d ba ca na ta ka ia β, stB d na σ, stB d ta τ47, viB d ca ν48, coB d ca dy fa κ, lsB d ca L mc E.1, giB ca E.1 κ, P]) (bc := [bbB d ba ca na ta ka ia β, stB d na σ, stB d ta τ47, viB d ca ν48, coB d ca dy fa κ, lsB d ca L mc E.1, giB ca E.1 κ, P]) (br := []) (bc' := [bbB d ba ca na ta ka ia β, stB d na σ, stB d ta τ50, viB d ca ν51, coB d ca dy fa κ, lsB d ca L mc E.1, giB ca E.1 κ, P]) (bs' := [bbB d ba ca na ta ka ia β, stB d na σ, stB d ta τ50, viB d ca ν51, coB d ca dy fa κ, lsB d ca L mc E.1, giB ca E.1 κ, P]) (As := [.int x1, .int x2, .int (0 : Int32), .int (0 : Int32)]) (rest := [.int v46]) (o := (some (.int v49))) C hkc hks (met_bl_gains hok hamb hE hby hL hg) (bq_pm [0, 1, 2, 3, 4, 5, 6, 7] rfl rfl rfl) (bq_pm [0, 1, 2, 3, 4, 5, 6, 7] rfl rfl rfl) (lw_V q1650 q1652 qs46 q113 q1653) (hd_X1_gains) (Nat.le_of_ble_eq_true rfl) (Nat.le_of_ble_eq_true rfl) (va_recv hK hP (ci := 1) (q0 := 0) rfl rfl) rfl hl.1 rfl (Nat.le_of_ble_eq_true rfl) dX1_game_102 hP hD hS (fun H locs hP hD hS => ?_)
            refine lv_icmp_gt (tgt := 165) hx hb dX1_game_105 (by decide) (fun c52 => ?_) (fun c52 => ?_)
            · have hf := bq_ip c52 hf
              obtain ⟨v53, ev53, hf⟩ := bq_lts hf
              refine lv_iinc (v := v53) (lv' := [(6, .int v53), (8, .int (0 : Int32)), (7, .int (0 : Int32)), (0, .ref (ba 0)), (1, .int x1), (2, .int x2), (3, .int x3), (4, .int x4), (5, .int x5)]) hx hb dX1_game_165 hl (k := 8) rfl (bq_inc (by decide) ev53) (by decide) rfl (fun ls hl => ?_)
              refine lv_goto (tgt := 43) hx hb dX1_game_168 (by decide) ?_
              exact ih _ _ _ _ _ _ _ _ _ _ _ _ _ hf hP hD hS ls (lv_sub hl [3, 4, 5, 6, 7, 8, 0] rfl) hk0
            · have hf := bq_in c52 hf
              refine lv_aload_n hx hb dX1_game_108 rfl (lv_at hl 2 rfl) ?_
              refine lv_iload_n hx hb dX1_game_109 rfl (lv_at hl 4 rfl) ?_
              refine lv_iload_n hx hb dX1_game_110 rfl (lv_at hl 3 rfl) ?_
              refine lv_iload hx hb dX1_game_111 (lv_at hl 0 rfl) ?_
              refine lv_if_ne (tgt := 120) hx hb dX1_game_113 (by decide) (fun c54 => ?_) (fun c54 => ?_)
              · have hf := bq_in c54 hf
                refine lv_iconst (v := (0 : Int32)) hx hb dX1_game_120 (by decide) ?_
                refine lv_iload hx hb dX1_game_121 (lv_at hl 1 rfl) ?_
                obtain ⟨v55, τ56, ν57, hg, hf⟩ := bq_b3s hf
                refine bq_cV (bs := [bbB d ba ca na ta ka ia β, stB d na σ, stB d ta τ50, viB d ca ν51, coB d ca dy fa κ, lsB d ca L mc E.1, giB ca E.1 κ, P]) (bc := [bbB d ba ca na ta ka ia β, stB d na σ, stB d ta τ50, viB d ca ν51, coB d ca dy fa κ, lsB d ca L mc E.1, giB ca E.1 κ, P]) (br := []) (bc' := [bbB d ba ca na ta ka ia β, stB d na σ, stB d ta τ56, viB d ca ν57, coB d ca dy fa κ, lsB d ca L mc E.1, giB ca E.1 κ, P]) (bs' := [bbB d ba ca na ta ka ia β, stB d na σ, stB d ta τ56, viB d ca ν57, coB d ca dy fa κ, lsB d ca L mc E.1, giB ca E.1 κ, P]) (As := [.int x2, .int x1, .int (0 : Int32), .int (0 : Int32)]) (rest := []) (o := (some (.int v55))) C hkc hks (met_bl_gains hok hamb hE hby hL hg) (bq_pm [0, 1, 2, 3, 4, 5, 6, 7] rfl rfl rfl) (bq_pm [0, 1, 2, 3, 4, 5, 6, 7] rfl rfl rfl) (lw_V q1650 q1652 qs46 q113 q1653) (hd_X1_gains) (Nat.le_of_ble_eq_true rfl) (Nat.le_of_ble_eq_true rfl) (va_recv hK hP (ci := 1) (q0 := 0) rfl rfl) rfl hl.1 rfl (Nat.le_of_ble_eq_true rfl) dX1_game_123 hP hD hS (fun H locs hP hD hS => ?_)
                refine lv_aload_n hx hb dX1_game_126 rfl (lv_at hl 2 rfl) ?_
                refine lv_iload_n hx hb dX1_game_127 rfl (lv_at hl 4 rfl) ?_
                refine lv_iload_n hx hb dX1_game_128 rfl (lv_at hl 3 rfl) ?_
                refine lv_iload hx hb dX1_game_129 (lv_at hl 0 rfl) ?_
                refine lv_iload hx hb dX1_game_131 (lv_at hl 1 rfl) ?_
                obtain ⟨v58, τ59, ν60, hg, hf⟩ := bq_b3s hf
                refine bq_cV (bs := [bbB d ba ca na ta ka ia β, stB d na σ, stB d ta τ56, viB d ca ν57, coB d ca dy fa κ, lsB d ca L mc E.1, giB ca E.1 κ, P]) (bc := [bbB d ba ca na ta ka ia β, stB d na σ, stB d ta τ56, viB d ca ν57, coB d ca dy fa κ, lsB d ca L mc E.1, giB ca E.1 κ, P]) (br := []) (bc' := [bbB d ba ca na ta ka ia β, stB d na σ, stB d ta τ59, viB d ca ν60, coB d ca dy fa κ, lsB d ca L mc E.1, giB ca E.1 κ, P]) (bs' := [bbB d ba ca na ta ka ia β, stB d na σ, stB d ta τ59, viB d ca ν60, coB d ca dy fa κ, lsB d ca L mc E.1, giB ca E.1 κ, P]) (As := [.int x2, .int x1, .int (0 : Int32), .int (0 : Int32)]) (rest := [.int v55]) (o := (some (.int v58))) C hkc hks (met_bl_gains hok hamb hE hby hL hg) (bq_pm [0, 1, 2, 3, 4, 5, 6, 7] rfl rfl rfl) (bq_pm [0, 1, 2, 3, 4, 5, 6, 7] rfl rfl rfl) (lw_V q1650 q1652 qs46 q113 q1653) (hd_X1_gains) (Nat.le_of_ble_eq_true rfl) (Nat.le_of_ble_eq_true rfl) (va_recv hK hP (ci := 1) (q0 := 0) rfl rfl) rfl hl.1 rfl (Nat.le_of_ble_eq_true rfl) dX1_game_133 hP hD hS (fun H locs hP hD hS => ?_)
                refine lv_icmp_le (tgt := 142) hx hb dX1_game_136 (by decide) (fun c61 => ?_) (fun c61 => ?_)
                · have hf := bq_ip c61 hf
                  obtain ⟨v62, ev62, hf⟩ := bq_lts hf
                  refine lv_iinc (v := v62) (lv' := [(4, .int v62), (8, .int (0 : Int32)), (7, .int (0 : Int32)), (0, .ref (ba 0)), (1, .int x1), (2, .int x2), (3, .int x3), (5, .int x5), (6, .int x6)]) hx hb dX1_game_142 hl (k := 6) rfl (bq_inc (by decide) ev62) (by decide) rfl (fun ls hl => ?_)
                  refine lv_iload hx hb dX1_game_145 (lv_at hl 7 rfl) ?_
                  refine lv_iconst (v := (-1 : Int32)) hx hb dX1_game_147 (by decide) ?_
                  refine lv_icmp_ne (tgt := 165) hx hb dX1_game_148 (by decide) (fun c63 => ?_) (fun c63 => ?_)
                  · have hf := bq_in c63 hf
                    obtain ⟨v64, ev64, hf⟩ := bq_lts hf
                    refine lv_iinc (v := v64) (lv' := [(6, .int v64), (4, .int v62), (8, .int (0 : Int32)), (7, .int (0 : Int32)), (0, .ref (ba 0)), (1, .int x1), (2, .int x2), (3, .int x3), (5, .int x5)]) hx hb dX1_game_165 hl (k := 8) rfl (bq_inc (by decide) ev64) (by decide) rfl (fun ls hl => ?_)
                    refine lv_goto (tgt := 43) hx hb dX1_game_168 (by decide) ?_
                    exact ih _ _ _ _ _ _ _ _ _ _ _ _ _ hf hP hD hS ls (lv_sub hl [4, 5, 6, 7, 1, 8, 0] rfl) hk0
                  · have hf := bq_ip c63 hf
                    refine lv_iload hx hb dX1_game_151 (lv_at hl 8 rfl) ?_
                    refine lv_iconst (v := (2 : Int32)) hx hb dX1_game_153 (by decide) ?_
                    refine lv_idiv hx hb dX1_game_154 (by decide) ?_
                    refine lv_bipush (v := (10 : Int32)) hx hb dX1_game_155 (by decide) ?_
                    refine lv_imul hx hb dX1_game_157 ?_
                    refine lv_iload hx hb dX1_game_158 (lv_at hl 8 rfl) ?_
                    refine lv_iconst (v := (2 : Int32)) hx hb dX1_game_160 (by decide) ?_
                    refine lv_irem hx hb dX1_game_161 (by decide) ?_
                    refine lv_iadd hx hb dX1_game_162 ?_
                    obtain ⟨v65, ev65, hf⟩ := bq_lts hf
                    refine bq_tope ev65 ?_
                    refine lv_istore (lv' := [(5, .int v65), (4, .int v62), (8, .int (0 : Int32)), (7, .int (0 : Int32)), (0, .ref (ba 0)), (1, .int x1), (2, .int x2), (3, .int x3), (6, .int x6)]) hx hb dX1_game_163 hl (by decide) rfl (fun ls hl => ?_)
                    obtain ⟨v66, ev66, hf⟩ := bq_lts hf
                    refine lv_iinc (v := v66) (lv' := [(6, .int v66), (5, .int v65), (4, .int v62), (8, .int (0 : Int32)), (7, .int (0 : Int32)), (0, .ref (ba 0)), (1, .int x1), (2, .int x2), (3, .int x3)]) hx hb dX1_game_165 hl (k := 8) rfl (bq_inc (by decide) ev66) (by decide) rfl (fun ls hl => ?_)
                    refine lv_goto (tgt := 43) hx hb dX1_game_168 (by decide) ?_
                    exact ih _ _ _ _ _ _ _ _ _ _ _ _ _ hf hP hD hS ls (lv_sub hl [5, 6, 7, 8, 2, 1, 0] rfl) hk0
                · have hf := bq_in c61 hf
                  refine lv_goto (tgt := 165) hx hb dX1_game_139 (by decide) ?_
                  obtain ⟨v67, ev67, hf⟩ := bq_lts hf
                  refine lv_iinc (v := v67) (lv' := [(6, .int v67), (8, .int (0 : Int32)), (7, .int (0 : Int32)), (0, .ref (ba 0)), (1, .int x1), (2, .int x2), (3, .int x3), (4, .int x4), (5, .int x5)]) hx hb dX1_game_165 hl (k := 8) rfl (bq_inc (by decide) ev67) (by decide) rfl (fun ls hl => ?_)
                  refine lv_goto (tgt := 43) hx hb dX1_game_168 (by decide) ?_
                  exact ih _ _ _ _ _ _ _ _ _ _ _ _ _ hf hP hD hS ls (lv_sub hl [3, 4, 5, 6, 7, 8, 0] rfl) hk0
              · have hf := bq_ip c54 hf
                refine lv_iconst (v := (1 : Int32)) hx hb dX1_game_116 (by decide) ?_
                refine lv_goto (tgt := 121) hx hb dX1_game_117 (by decide) ?_
                refine lv_iload hx hb dX1_game_121 (lv_at hl 1 rfl) ?_
                obtain ⟨v68, τ69, ν70, hg, hf⟩ := bq_b3s hf
                refine bq_cV (bs := [bbB d ba ca na ta ka ia β, stB d na σ, stB d ta τ50, viB d ca ν51, coB d ca dy fa κ, lsB d ca L mc E.1, giB ca E.1 κ, P]) (bc := [bbB d ba ca na ta ka ia β, stB d na σ, stB d ta τ50, viB d ca ν51, coB d ca dy fa κ, lsB d ca L mc E.1, giB ca E.1 κ, P]) (br := []) (bc' := [bbB d ba ca na ta ka ia β, stB d na σ, stB d ta τ69, viB d ca ν70, coB d ca dy fa κ, lsB d ca L mc E.1, giB ca E.1 κ, P]) (bs' := [bbB d ba ca na ta ka ia β, stB d na σ, stB d ta τ69, viB d ca ν70, coB d ca dy fa κ, lsB d ca L mc E.1, giB ca E.1 κ, P]) (As := [.int x2, .int x1, .int (1 : Int32), .int (0 : Int32)]) (rest := []) (o := (some (.int v68))) C hkc hks (met_bl_gains hok hamb hE hby hL hg) (bq_pm [0, 1, 2, 3, 4, 5, 6, 7] rfl rfl rfl) (bq_pm [0, 1, 2, 3, 4, 5, 6, 7] rfl rfl rfl) (lw_V q1650 q1652 qs46 q113 q1653) (hd_X1_gains) (Nat.le_of_ble_eq_true rfl) (Nat.le_of_ble_eq_true rfl) (va_recv hK hP (ci := 1) (q0 := 0) rfl rfl) rfl hl.1 rfl (Nat.le_of_ble_eq_true rfl) dX1_game_123 hP hD hS (fun H locs hP hD hS => ?_)
                refine lv_aload_n hx hb dX1_game_126 rfl (lv_at hl 2 rfl) ?_
                refine lv_iload_n hx hb dX1_game_127 rfl (lv_at hl 4 rfl) ?_
                refine lv_iload_n hx hb dX1_game_128 rfl (lv_at hl 3 rfl) ?_
                refine lv_iload hx hb dX1_game_129 (lv_at hl 0 rfl) ?_
                refine lv_iload hx hb dX1_game_131 (lv_at hl 1 rfl) ?_
                obtain ⟨v71, τ72, ν73, hg, hf⟩ := bq_b3s hf
                refine bq_cV (bs := [bbB d ba ca na ta ka ia β, stB d na σ, stB d ta τ69, viB d ca ν70, coB d ca dy fa κ, lsB d ca L mc E.1, giB ca E.1 κ, P]) (bc := [bbB d ba ca na ta ka ia β, stB d na σ, stB d ta τ69, viB d ca ν70, coB d ca dy fa κ, lsB d ca L mc E.1, giB ca E.1 κ, P]) (br := []) (bc' := [bbB d ba ca na ta ka ia β, stB d na σ, stB d ta τ72, viB d ca ν73, coB d ca dy fa κ, lsB d ca L mc E.1, giB ca E.1 κ, P]) (bs' := [bbB d ba ca na ta ka ia β, stB d na σ, stB d ta τ72, viB d ca ν73, coB d ca dy fa κ, lsB d ca L mc E.1, giB ca E.1 κ, P]) (As := [.int x2, .int x1, .int (0 : Int32), .int (0 : Int32)]) (rest := [.int v68]) (o := (some (.int v71))) C hkc hks (met_bl_gains hok hamb hE hby hL hg) (bq_pm [0, 1, 2, 3, 4, 5, 6, 7] rfl rfl rfl) (bq_pm [0, 1, 2, 3, 4, 5, 6, 7] rfl rfl rfl) (lw_V q1650 q1652 qs46 q113 q1653) (hd_X1_gains) (Nat.le_of_ble_eq_true rfl) (Nat.le_of_ble_eq_true rfl) (va_recv hK hP (ci := 1) (q0 := 0) rfl rfl) rfl hl.1 rfl (Nat.le_of_ble_eq_true rfl) dX1_game_133 hP hD hS (fun H locs hP hD hS => ?_)
                refine lv_icmp_le (tgt := 142) hx hb dX1_game_136 (by decide) (fun c74 => ?_) (fun c74 => ?_)
                · have hf := bq_ip c74 hf
                  obtain ⟨v75, ev75, hf⟩ := bq_lts hf
                  refine lv_iinc (v := v75) (lv' := [(4, .int v75), (8, .int (0 : Int32)), (7, .int (0 : Int32)), (0, .ref (ba 0)), (1, .int x1), (2, .int x2), (3, .int x3), (5, .int x5), (6, .int x6)]) hx hb dX1_game_142 hl (k := 6) rfl (bq_inc (by decide) ev75) (by decide) rfl (fun ls hl => ?_)
                  refine lv_iload hx hb dX1_game_145 (lv_at hl 7 rfl) ?_
                  refine lv_iconst (v := (-1 : Int32)) hx hb dX1_game_147 (by decide) ?_
                  refine lv_icmp_ne (tgt := 165) hx hb dX1_game_148 (by decide) (fun c76 => ?_) (fun c76 => ?_)
                  · have hf := bq_in c76 hf
                    obtain ⟨v77, ev77, hf⟩ := bq_lts hf
                    refine lv_iinc (v := v77) (lv' := [(6, .int v77), (4, .int v75), (8, .int (0 : Int32)), (7, .int (0 : Int32)), (0, .ref (ba 0)), (1, .int x1), (2, .int x2), (3, .int x3), (5, .int x5)]) hx hb dX1_game_165 hl (k := 8) rfl (bq_inc (by decide) ev77) (by decide) rfl (fun ls hl => ?_)
                    refine lv_goto (tgt := 43) hx hb dX1_game_168 (by decide) ?_
                    exact ih _ _ _ _ _ _ _ _ _ _ _ _ _ hf hP hD hS ls (lv_sub hl [4, 5, 6, 7, 1, 8, 0] rfl) hk0
                  · have hf := bq_ip c76 hf
                    refine lv_iload hx hb dX1_game_151 (lv_at hl 8 rfl) ?_
                    refine lv_iconst (v := (2 : Int32)) hx hb dX1_game_153 (by decide) ?_
                    refine lv_idiv hx hb dX1_game_154 (by decide) ?_
                    refine lv_bipush (v := (10 : Int32)) hx hb dX1_game_155 (by decide) ?_
                    refine lv_imul hx hb dX1_game_157 ?_
                    refine lv_iload hx hb dX1_game_158 (lv_at hl 8 rfl) ?_
                    refine lv_iconst (v := (2 : Int32)) hx hb dX1_game_160 (by decide) ?_
                    refine lv_irem hx hb dX1_game_161 (by decide) ?_
                    refine lv_iadd hx hb dX1_game_162 ?_
                    obtain ⟨v78, ev78, hf⟩ := bq_lts hf
                    refine bq_tope ev78 ?_
                    refine lv_istore (lv' := [(5, .int v78), (4, .int v75), (8, .int (0 : Int32)), (7, .int (0 : Int32)), (0, .ref (ba 0)), (1, .int x1), (2, .int x2), (3, .int x3), (6, .int x6)]) hx hb dX1_game_163 hl (by decide) rfl (fun ls hl => ?_)
                    obtain ⟨v79, ev79, hf⟩ := bq_lts hf
                    refine lv_iinc (v := v79) (lv' := [(6, .int v79), (5, .int v78), (4, .int v75), (8, .int (0 : Int32)), (7, .int (0 : Int32)), (0, .ref (ba 0)), (1, .int x1), (2, .int x2), (3, .int x3)]) hx hb dX1_game_165 hl (k := 8) rfl (bq_inc (by decide) ev79) (by decide) rfl (fun ls hl => ?_)
                    refine lv_goto (tgt := 43) hx hb dX1_game_168 (by decide) ?_
                    exact ih _ _ _ _ _ _ _ _ _ _ _ _ _ hf hP hD hS ls (lv_sub hl [5, 6, 7, 8, 2, 1, 0] rfl) hk0
                · have hf := bq_in c74 hf
                  refine lv_goto (tgt := 165) hx hb dX1_game_139 (by decide) ?_
                  obtain ⟨v80, ev80, hf⟩ := bq_lts hf
                  refine lv_iinc (v := v80) (lv' := [(6, .int v80), (8, .int (0 : Int32)), (7, .int (0 : Int32)), (0, .ref (ba 0)), (1, .int x1), (2, .int x2), (3, .int x3), (4, .int x4), (5, .int x5)]) hx hb dX1_game_165 hl (k := 8) rfl (bq_inc (by decide) ev80) (by decide) rfl (fun ls hl => ?_)
                  refine lv_goto (tgt := 43) hx hb dX1_game_168 (by decide) ?_
                  exact ih _ _ _ _ _ _ _ _ _ _ _ _ _ hf hP hD hS ls (lv_sub hl [3, 4, 5, 6, 7, 8, 0] rfl) hk0
        · have hf := bq_ip c9 hf
          refine lv_iconst (v := (1 : Int32)) hx hb dX1_game_70 (by decide) ?_
          refine lv_goto (tgt := 75) hx hb dX1_game_71 (by decide) ?_
          refine lv_istore (lv' := [(8, .int (1 : Int32)), (7, .int (0 : Int32)), (0, .ref (ba 0)), (1, .int x1), (2, .int x2), (3, .int x3), (4, .int x4), (5, .int x5), (6, .int x6)]) hx hb dX1_game_75 hl (by decide) rfl (fun ls hl => ?_)
          refine lv_aload_n hx hb dX1_game_77 rfl (lv_at hl 2 rfl) ?_
          refine lv_iload_n hx hb dX1_game_78 rfl (lv_at hl 3 rfl) ?_
          refine lv_iload_n hx hb dX1_game_79 rfl (lv_at hl 4 rfl) ?_
          refine lv_iload hx hb dX1_game_80 (lv_at hl 1 rfl) ?_
          refine lv_if_ne (tgt := 89) hx hb dX1_game_82 (by decide) (fun c81 => ?_) (fun c81 => ?_)
          · have hf := bq_in c81 hf
            refine lv_iconst (v := (0 : Int32)) hx hb dX1_game_89 (by decide) ?_
            refine lv_iload hx hb dX1_game_90 (lv_at hl 0 rfl) ?_
            obtain ⟨v82, τ83, ν84, hg, hf⟩ := bq_b3s hf
            refine bq_cV (bs := [bbB d ba ca na ta ka ia β, stB d na σ, stB d ta τ, viB d ca ν, coB d ca dy fa κ, lsB d ca L mc E.1, giB ca E.1 κ, P]) (bc := [bbB d ba ca na ta ka ia β, stB d na σ, stB d ta τ, viB d ca ν, coB d ca dy fa κ, lsB d ca L mc E.1, giB ca E.1 κ, P]) (br := []) (bc' := [bbB d ba ca na ta ka ia β, stB d na σ, stB d ta τ83, viB d ca ν84, coB d ca dy fa κ, lsB d ca L mc E.1, giB ca E.1 κ, P]) (bs' := [bbB d ba ca na ta ka ia β, stB d na σ, stB d ta τ83, viB d ca ν84, coB d ca dy fa κ, lsB d ca L mc E.1, giB ca E.1 κ, P]) (As := [.int x1, .int x2, .int (0 : Int32), .int (1 : Int32)]) (rest := []) (o := (some (.int v82))) C hkc hks (met_bl_gains hok hamb hE hby hL hg) (bq_pm [0, 1, 2, 3, 4, 5, 6, 7] rfl rfl rfl) (bq_pm [0, 1, 2, 3, 4, 5, 6, 7] rfl rfl rfl) (lw_V q1650 q1652 qs46 q113 q1653) (hd_X1_gains) (Nat.le_of_ble_eq_true rfl) (Nat.le_of_ble_eq_true rfl) (va_recv hK hP (ci := 1) (q0 := 0) rfl rfl) rfl hl.1 rfl (Nat.le_of_ble_eq_true rfl) dX1_game_92 hP hD hS (fun H locs hP hD hS => ?_)
            refine lv_aload_n hx hb dX1_game_95 rfl (lv_at hl 2 rfl) ?_
            refine lv_iload_n hx hb dX1_game_96 rfl (lv_at hl 3 rfl) ?_
            refine lv_iload_n hx hb dX1_game_97 rfl (lv_at hl 4 rfl) ?_
            refine lv_iload hx hb dX1_game_98 (lv_at hl 1 rfl) ?_
            refine lv_iload hx hb dX1_game_100 (lv_at hl 0 rfl) ?_
            obtain ⟨v85, τ86, ν87, hg, hf⟩ := bq_b3s hf
            refine bq_cV (bs := [bbB d ba ca na ta ka ia β, stB d na σ, stB d ta τ83, viB d ca ν84, coB d ca dy fa κ, lsB d ca L mc E.1, giB ca E.1 κ, P]) (bc := [bbB d ba ca na ta ka ia β, stB d na σ, stB d ta τ83, viB d ca ν84, coB d ca dy fa κ, lsB d ca L mc E.1, giB ca E.1 κ, P]) (br := []) (bc' := [bbB d ba ca na ta ka ia β, stB d na σ, stB d ta τ86, viB d ca ν87, coB d ca dy fa κ, lsB d ca L mc E.1, giB ca E.1 κ, P]) (bs' := [bbB d ba ca na ta ka ia β, stB d na σ, stB d ta τ86, viB d ca ν87, coB d ca dy fa κ, lsB d ca L mc E.1, giB ca E.1 κ, P]) (As := [.int x1, .int x2, .int (0 : Int32), .int (1 : Int32)]) (rest := [.int v82]) (o := (some (.int v85))) C hkc hks (met_bl_gains hok hamb hE hby hL hg) (bq_pm [0, 1, 2, 3, 4, 5, 6, 7] rfl rfl rfl) (bq_pm [0, 1, 2, 3, 4, 5, 6, 7] rfl rfl rfl) (lw_V q1650 q1652 qs46 q113 q1653) (hd_X1_gains) (Nat.le_of_ble_eq_true rfl) (Nat.le_of_ble_eq_true rfl) (va_recv hK hP (ci := 1) (q0 := 0) rfl rfl) rfl hl.1 rfl (Nat.le_of_ble_eq_true rfl) dX1_game_102 hP hD hS (fun H locs hP hD hS => ?_)
            refine lv_icmp_gt (tgt := 165) hx hb dX1_game_105 (by decide) (fun c88 => ?_) (fun c88 => ?_)
            · have hf := bq_ip c88 hf
              obtain ⟨v89, ev89, hf⟩ := bq_lts hf
              refine lv_iinc (v := v89) (lv' := [(6, .int v89), (8, .int (1 : Int32)), (7, .int (0 : Int32)), (0, .ref (ba 0)), (1, .int x1), (2, .int x2), (3, .int x3), (4, .int x4), (5, .int x5)]) hx hb dX1_game_165 hl (k := 8) rfl (bq_inc (by decide) ev89) (by decide) rfl (fun ls hl => ?_)
              refine lv_goto (tgt := 43) hx hb dX1_game_168 (by decide) ?_
              exact ih _ _ _ _ _ _ _ _ _ _ _ _ _ hf hP hD hS ls (lv_sub hl [3, 4, 5, 6, 7, 8, 0] rfl) hk0
            · have hf := bq_in c88 hf
              refine lv_aload_n hx hb dX1_game_108 rfl (lv_at hl 2 rfl) ?_
              refine lv_iload_n hx hb dX1_game_109 rfl (lv_at hl 4 rfl) ?_
              refine lv_iload_n hx hb dX1_game_110 rfl (lv_at hl 3 rfl) ?_
              refine lv_iload hx hb dX1_game_111 (lv_at hl 0 rfl) ?_
              refine lv_if_ne (tgt := 120) hx hb dX1_game_113 (by decide) (fun c90 => ?_) (fun c90 => ?_)
              · have hf := bq_in c90 hf
                refine lv_iconst (v := (0 : Int32)) hx hb dX1_game_120 (by decide) ?_
                refine lv_iload hx hb dX1_game_121 (lv_at hl 1 rfl) ?_
                obtain ⟨v91, τ92, ν93, hg, hf⟩ := bq_b3s hf
                refine bq_cV (bs := [bbB d ba ca na ta ka ia β, stB d na σ, stB d ta τ86, viB d ca ν87, coB d ca dy fa κ, lsB d ca L mc E.1, giB ca E.1 κ, P]) (bc := [bbB d ba ca na ta ka ia β, stB d na σ, stB d ta τ86, viB d ca ν87, coB d ca dy fa κ, lsB d ca L mc E.1, giB ca E.1 κ, P]) (br := []) (bc' := [bbB d ba ca na ta ka ia β, stB d na σ, stB d ta τ92, viB d ca ν93, coB d ca dy fa κ, lsB d ca L mc E.1, giB ca E.1 κ, P]) (bs' := [bbB d ba ca na ta ka ia β, stB d na σ, stB d ta τ92, viB d ca ν93, coB d ca dy fa κ, lsB d ca L mc E.1, giB ca E.1 κ, P]) (As := [.int x2, .int x1, .int (0 : Int32), .int (0 : Int32)]) (rest := []) (o := (some (.int v91))) C hkc hks (met_bl_gains hok hamb hE hby hL hg) (bq_pm [0, 1, 2, 3, 4, 5, 6, 7] rfl rfl rfl) (bq_pm [0, 1, 2, 3, 4, 5, 6, 7] rfl rfl rfl) (lw_V q1650 q1652 qs46 q113 q1653) (hd_X1_gains) (Nat.le_of_ble_eq_true rfl) (Nat.le_of_ble_eq_true rfl) (va_recv hK hP (ci := 1) (q0 := 0) rfl rfl) rfl hl.1 rfl (Nat.le_of_ble_eq_true rfl) dX1_game_123 hP hD hS (fun H locs hP hD hS => ?_)
                refine lv_aload_n hx hb dX1_game_126 rfl (lv_at hl 2 rfl) ?_
                refine lv_iload_n hx hb dX1_game_127 rfl (lv_at hl 4 rfl) ?_
                refine lv_iload_n hx hb dX1_game_128 rfl (lv_at hl 3 rfl) ?_
                refine lv_iload hx hb dX1_game_129 (lv_at hl 0 rfl) ?_
                refine lv_iload hx hb dX1_game_131 (lv_at hl 1 rfl) ?_
                obtain ⟨v94, τ95, ν96, hg, hf⟩ := bq_b3s hf
                refine bq_cV (bs := [bbB d ba ca na ta ka ia β, stB d na σ, stB d ta τ92, viB d ca ν93, coB d ca dy fa κ, lsB d ca L mc E.1, giB ca E.1 κ, P]) (bc := [bbB d ba ca na ta ka ia β, stB d na σ, stB d ta τ92, viB d ca ν93, coB d ca dy fa κ, lsB d ca L mc E.1, giB ca E.1 κ, P]) (br := []) (bc' := [bbB d ba ca na ta ka ia β, stB d na σ, stB d ta τ95, viB d ca ν96, coB d ca dy fa κ, lsB d ca L mc E.1, giB ca E.1 κ, P]) (bs' := [bbB d ba ca na ta ka ia β, stB d na σ, stB d ta τ95, viB d ca ν96, coB d ca dy fa κ, lsB d ca L mc E.1, giB ca E.1 κ, P]) (As := [.int x2, .int x1, .int (1 : Int32), .int (0 : Int32)]) (rest := [.int v91]) (o := (some (.int v94))) C hkc hks (met_bl_gains hok hamb hE hby hL hg) (bq_pm [0, 1, 2, 3, 4, 5, 6, 7] rfl rfl rfl) (bq_pm [0, 1, 2, 3, 4, 5, 6, 7] rfl rfl rfl) (lw_V q1650 q1652 qs46 q113 q1653) (hd_X1_gains) (Nat.le_of_ble_eq_true rfl) (Nat.le_of_ble_eq_true rfl) (va_recv hK hP (ci := 1) (q0 := 0) rfl rfl) rfl hl.1 rfl (Nat.le_of_ble_eq_true rfl) dX1_game_133 hP hD hS (fun H locs hP hD hS => ?_)
                refine lv_icmp_le (tgt := 142) hx hb dX1_game_136 (by decide) (fun c97 => ?_) (fun c97 => ?_)
                · have hf := bq_ip c97 hf
                  obtain ⟨v98, ev98, hf⟩ := bq_lts hf
                  refine lv_iinc (v := v98) (lv' := [(4, .int v98), (8, .int (1 : Int32)), (7, .int (0 : Int32)), (0, .ref (ba 0)), (1, .int x1), (2, .int x2), (3, .int x3), (5, .int x5), (6, .int x6)]) hx hb dX1_game_142 hl (k := 6) rfl (bq_inc (by decide) ev98) (by decide) rfl (fun ls hl => ?_)
                  refine lv_iload hx hb dX1_game_145 (lv_at hl 7 rfl) ?_
                  refine lv_iconst (v := (-1 : Int32)) hx hb dX1_game_147 (by decide) ?_
                  refine lv_icmp_ne (tgt := 165) hx hb dX1_game_148 (by decide) (fun c99 => ?_) (fun c99 => ?_)
                  · have hf := bq_in c99 hf
                    obtain ⟨v100, ev100, hf⟩ := bq_lts hf
                    refine lv_iinc (v := v100) (lv' := [(6, .int v100), (4, .int v98), (8, .int (1 : Int32)), (7, .int (0 : Int32)), (0, .ref (ba 0)), (1, .int x1), (2, .int x2), (3, .int x3), (5, .int x5)]) hx hb dX1_game_165 hl (k := 8) rfl (bq_inc (by decide) ev100) (by decide) rfl (fun ls hl => ?_)
                    refine lv_goto (tgt := 43) hx hb dX1_game_168 (by decide) ?_
                    exact ih _ _ _ _ _ _ _ _ _ _ _ _ _ hf hP hD hS ls (lv_sub hl [4, 5, 6, 7, 1, 8, 0] rfl) hk0
                  · have hf := bq_ip c99 hf
                    refine lv_iload hx hb dX1_game_151 (lv_at hl 8 rfl) ?_
                    refine lv_iconst (v := (2 : Int32)) hx hb dX1_game_153 (by decide) ?_
                    refine lv_idiv hx hb dX1_game_154 (by decide) ?_
                    refine lv_bipush (v := (10 : Int32)) hx hb dX1_game_155 (by decide) ?_
                    refine lv_imul hx hb dX1_game_157 ?_
                    refine lv_iload hx hb dX1_game_158 (lv_at hl 8 rfl) ?_
                    refine lv_iconst (v := (2 : Int32)) hx hb dX1_game_160 (by decide) ?_
                    refine lv_irem hx hb dX1_game_161 (by decide) ?_
                    refine lv_iadd hx hb dX1_game_162 ?_
                    obtain ⟨v101, ev101, hf⟩ := bq_lts hf
                    refine bq_tope ev101 ?_
                    refine lv_istore (lv' := [(5, .int v101), (4, .int v98), (8, .int (1 : Int32)), (7, .int (0 : Int32)), (0, .ref (ba 0)), (1, .int x1), (2, .int x2), (3, .int x3), (6, .int x6)]) hx hb dX1_game_163 hl (by decide) rfl (fun ls hl => ?_)
                    obtain ⟨v102, ev102, hf⟩ := bq_lts hf
                    refine lv_iinc (v := v102) (lv' := [(6, .int v102), (5, .int v101), (4, .int v98), (8, .int (1 : Int32)), (7, .int (0 : Int32)), (0, .ref (ba 0)), (1, .int x1), (2, .int x2), (3, .int x3)]) hx hb dX1_game_165 hl (k := 8) rfl (bq_inc (by decide) ev102) (by decide) rfl (fun ls hl => ?_)
                    refine lv_goto (tgt := 43) hx hb dX1_game_168 (by decide) ?_
                    exact ih _ _ _ _ _ _ _ _ _ _ _ _ _ hf hP hD hS ls (lv_sub hl [5, 6, 7, 8, 2, 1, 0] rfl) hk0
                · have hf := bq_in c97 hf
                  refine lv_goto (tgt := 165) hx hb dX1_game_139 (by decide) ?_
                  obtain ⟨v103, ev103, hf⟩ := bq_lts hf
                  refine lv_iinc (v := v103) (lv' := [(6, .int v103), (8, .int (1 : Int32)), (7, .int (0 : Int32)), (0, .ref (ba 0)), (1, .int x1), (2, .int x2), (3, .int x3), (4, .int x4), (5, .int x5)]) hx hb dX1_game_165 hl (k := 8) rfl (bq_inc (by decide) ev103) (by decide) rfl (fun ls hl => ?_)
                  refine lv_goto (tgt := 43) hx hb dX1_game_168 (by decide) ?_
                  exact ih _ _ _ _ _ _ _ _ _ _ _ _ _ hf hP hD hS ls (lv_sub hl [3, 4, 5, 6, 7, 8, 0] rfl) hk0
              · have hf := bq_ip c90 hf
                refine lv_iconst (v := (1 : Int32)) hx hb dX1_game_116 (by decide) ?_
                refine lv_goto (tgt := 121) hx hb dX1_game_117 (by decide) ?_
                refine lv_iload hx hb dX1_game_121 (lv_at hl 1 rfl) ?_
                obtain ⟨v104, τ105, ν106, hg, hf⟩ := bq_b3s hf
                refine bq_cV (bs := [bbB d ba ca na ta ka ia β, stB d na σ, stB d ta τ86, viB d ca ν87, coB d ca dy fa κ, lsB d ca L mc E.1, giB ca E.1 κ, P]) (bc := [bbB d ba ca na ta ka ia β, stB d na σ, stB d ta τ86, viB d ca ν87, coB d ca dy fa κ, lsB d ca L mc E.1, giB ca E.1 κ, P]) (br := []) (bc' := [bbB d ba ca na ta ka ia β, stB d na σ, stB d ta τ105, viB d ca ν106, coB d ca dy fa κ, lsB d ca L mc E.1, giB ca E.1 κ, P]) (bs' := [bbB d ba ca na ta ka ia β, stB d na σ, stB d ta τ105, viB d ca ν106, coB d ca dy fa κ, lsB d ca L mc E.1, giB ca E.1 κ, P]) (As := [.int x2, .int x1, .int (1 : Int32), .int (0 : Int32)]) (rest := []) (o := (some (.int v104))) C hkc hks (met_bl_gains hok hamb hE hby hL hg) (bq_pm [0, 1, 2, 3, 4, 5, 6, 7] rfl rfl rfl) (bq_pm [0, 1, 2, 3, 4, 5, 6, 7] rfl rfl rfl) (lw_V q1650 q1652 qs46 q113 q1653) (hd_X1_gains) (Nat.le_of_ble_eq_true rfl) (Nat.le_of_ble_eq_true rfl) (va_recv hK hP (ci := 1) (q0 := 0) rfl rfl) rfl hl.1 rfl (Nat.le_of_ble_eq_true rfl) dX1_game_123 hP hD hS (fun H locs hP hD hS => ?_)
                refine lv_aload_n hx hb dX1_game_126 rfl (lv_at hl 2 rfl) ?_
                refine lv_iload_n hx hb dX1_game_127 rfl (lv_at hl 4 rfl) ?_
                refine lv_iload_n hx hb dX1_game_128 rfl (lv_at hl 3 rfl) ?_
                refine lv_iload hx hb dX1_game_129 (lv_at hl 0 rfl) ?_
                refine lv_iload hx hb dX1_game_131 (lv_at hl 1 rfl) ?_
                obtain ⟨v107, τ108, ν109, hg, hf⟩ := bq_b3s hf
                refine bq_cV (bs := [bbB d ba ca na ta ka ia β, stB d na σ, stB d ta τ105, viB d ca ν106, coB d ca dy fa κ, lsB d ca L mc E.1, giB ca E.1 κ, P]) (bc := [bbB d ba ca na ta ka ia β, stB d na σ, stB d ta τ105, viB d ca ν106, coB d ca dy fa κ, lsB d ca L mc E.1, giB ca E.1 κ, P]) (br := []) (bc' := [bbB d ba ca na ta ka ia β, stB d na σ, stB d ta τ108, viB d ca ν109, coB d ca dy fa κ, lsB d ca L mc E.1, giB ca E.1 κ, P]) (bs' := [bbB d ba ca na ta ka ia β, stB d na σ, stB d ta τ108, viB d ca ν109, coB d ca dy fa κ, lsB d ca L mc E.1, giB ca E.1 κ, P]) (As := [.int x2, .int x1, .int (1 : Int32), .int (0 : Int32)]) (rest := [.int v104]) (o := (some (.int v107))) C hkc hks (met_bl_gains hok hamb hE hby hL hg) (bq_pm [0, 1, 2, 3, 4, 5, 6, 7] rfl rfl rfl) (bq_pm [0, 1, 2, 3, 4, 5, 6, 7] rfl rfl rfl) (lw_V q1650 q1652 qs46 q113 q1653) (hd_X1_gains) (Nat.le_of_ble_eq_true rfl) (Nat.le_of_ble_eq_true rfl) (va_recv hK hP (ci := 1) (q0 := 0) rfl rfl) rfl hl.1 rfl (Nat.le_of_ble_eq_true rfl) dX1_game_133 hP hD hS (fun H locs hP hD hS => ?_)
                refine lv_icmp_le (tgt := 142) hx hb dX1_game_136 (by decide) (fun c110 => ?_) (fun c110 => ?_)
                · have hf := bq_ip c110 hf
                  obtain ⟨v111, ev111, hf⟩ := bq_lts hf
                  refine lv_iinc (v := v111) (lv' := [(4, .int v111), (8, .int (1 : Int32)), (7, .int (0 : Int32)), (0, .ref (ba 0)), (1, .int x1), (2, .int x2), (3, .int x3), (5, .int x5), (6, .int x6)]) hx hb dX1_game_142 hl (k := 6) rfl (bq_inc (by decide) ev111) (by decide) rfl (fun ls hl => ?_)
                  refine lv_iload hx hb dX1_game_145 (lv_at hl 7 rfl) ?_
                  refine lv_iconst (v := (-1 : Int32)) hx hb dX1_game_147 (by decide) ?_
                  refine lv_icmp_ne (tgt := 165) hx hb dX1_game_148 (by decide) (fun c112 => ?_) (fun c112 => ?_)
                  · have hf := bq_in c112 hf
                    obtain ⟨v113, ev113, hf⟩ := bq_lts hf
                    refine lv_iinc (v := v113) (lv' := [(6, .int v113), (4, .int v111), (8, .int (1 : Int32)), (7, .int (0 : Int32)), (0, .ref (ba 0)), (1, .int x1), (2, .int x2), (3, .int x3), (5, .int x5)]) hx hb dX1_game_165 hl (k := 8) rfl (bq_inc (by decide) ev113) (by decide) rfl (fun ls hl => ?_)
                    refine lv_goto (tgt := 43) hx hb dX1_game_168 (by decide) ?_
                    exact ih _ _ _ _ _ _ _ _ _ _ _ _ _ hf hP hD hS ls (lv_sub hl [4, 5, 6, 7, 1, 8, 0] rfl) hk0
                  · have hf := bq_ip c112 hf
                    refine lv_iload hx hb dX1_game_151 (lv_at hl 8 rfl) ?_
                    refine lv_iconst (v := (2 : Int32)) hx hb dX1_game_153 (by decide) ?_
                    refine lv_idiv hx hb dX1_game_154 (by decide) ?_
                    refine lv_bipush (v := (10 : Int32)) hx hb dX1_game_155 (by decide) ?_
                    refine lv_imul hx hb dX1_game_157 ?_
                    refine lv_iload hx hb dX1_game_158 (lv_at hl 8 rfl) ?_
                    refine lv_iconst (v := (2 : Int32)) hx hb dX1_game_160 (by decide) ?_
                    refine lv_irem hx hb dX1_game_161 (by decide) ?_
                    refine lv_iadd hx hb dX1_game_162 ?_
                    obtain ⟨v114, ev114, hf⟩ := bq_lts hf
                    refine bq_tope ev114 ?_
                    refine lv_istore (lv' := [(5, .int v114), (4, .int v111), (8, .int (1 : Int32)), (7, .int (0 : Int32)), (0, .ref (ba 0)), (1, .int x1), (2, .int x2), (3, .int x3), (6, .int x6)]) hx hb dX1_game_163 hl (by decide) rfl (fun ls hl => ?_)
                    obtain ⟨v115, ev115, hf⟩ := bq_lts hf
                    refine lv_iinc (v := v115) (lv' := [(6, .int v115), (5, .int v114), (4, .int v111), (8, .int (1 : Int32)), (7, .int (0 : Int32)), (0, .ref (ba 0)), (1, .int x1), (2, .int x2), (3, .int x3)]) hx hb dX1_game_165 hl (k := 8) rfl (bq_inc (by decide) ev115) (by decide) rfl (fun ls hl => ?_)
                    refine lv_goto (tgt := 43) hx hb dX1_game_168 (by decide) ?_
                    exact ih _ _ _ _ _ _ _ _ _ _ _ _ _ hf hP hD hS ls (lv_sub hl [5, 6, 7, 8, 2, 1, 0] rfl) hk0
                · have hf := bq_in c110 hf
                  refine lv_goto (tgt := 165) hx hb dX1_game_139 (by decide) ?_
                  obtain ⟨v116, ev116, hf⟩ := bq_lts hf
                  refine lv_iinc (v := v116) (lv' := [(6, .int v116), (8, .int (1 : Int32)), (7, .int (0 : Int32)), (0, .ref (ba 0)), (1, .int x1), (2, .int x2), (3, .int x3), (4, .int x4), (5, .int x5)]) hx hb dX1_game_165 hl (k := 8) rfl (bq_inc (by decide) ev116) (by decide) rfl (fun ls hl => ?_)
                  refine lv_goto (tgt := 43) hx hb dX1_game_168 (by decide) ?_
                  exact ih _ _ _ _ _ _ _ _ _ _ _ _ _ hf hP hD hS ls (lv_sub hl [3, 4, 5, 6, 7, 8, 0] rfl) hk0
          · have hf := bq_ip c81 hf
            refine lv_iconst (v := (1 : Int32)) hx hb dX1_game_85 (by decide) ?_
            refine lv_goto (tgt := 90) hx hb dX1_game_86 (by decide) ?_
            refine lv_iload hx hb dX1_game_90 (lv_at hl 0 rfl) ?_
            obtain ⟨v117, τ118, ν119, hg, hf⟩ := bq_b3s hf
            refine bq_cV (bs := [bbB d ba ca na ta ka ia β, stB d na σ, stB d ta τ, viB d ca ν, coB d ca dy fa κ, lsB d ca L mc E.1, giB ca E.1 κ, P]) (bc := [bbB d ba ca na ta ka ia β, stB d na σ, stB d ta τ, viB d ca ν, coB d ca dy fa κ, lsB d ca L mc E.1, giB ca E.1 κ, P]) (br := []) (bc' := [bbB d ba ca na ta ka ia β, stB d na σ, stB d ta τ118, viB d ca ν119, coB d ca dy fa κ, lsB d ca L mc E.1, giB ca E.1 κ, P]) (bs' := [bbB d ba ca na ta ka ia β, stB d na σ, stB d ta τ118, viB d ca ν119, coB d ca dy fa κ, lsB d ca L mc E.1, giB ca E.1 κ, P]) (As := [.int x1, .int x2, .int (1 : Int32), .int (1 : Int32)]) (rest := []) (o := (some (.int v117))) C hkc hks (met_bl_gains hok hamb hE hby hL hg) (bq_pm [0, 1, 2, 3, 4, 5, 6, 7] rfl rfl rfl) (bq_pm [0, 1, 2, 3, 4, 5, 6, 7] rfl rfl rfl) (lw_V q1650 q1652 qs46 q113 q1653) (hd_X1_gains) (Nat.le_of_ble_eq_true rfl) (Nat.le_of_ble_eq_true rfl) (va_recv hK hP (ci := 1) (q0 := 0) rfl rfl) rfl hl.1 rfl (Nat.le_of_ble_eq_true rfl) dX1_game_92 hP hD hS (fun H locs hP hD hS => ?_)
            refine lv_aload_n hx hb dX1_game_95 rfl (lv_at hl 2 rfl) ?_
            refine lv_iload_n hx hb dX1_game_96 rfl (lv_at hl 3 rfl) ?_
            refine lv_iload_n hx hb dX1_game_97 rfl (lv_at hl 4 rfl) ?_
            refine lv_iload hx hb dX1_game_98 (lv_at hl 1 rfl) ?_
            refine lv_iload hx hb dX1_game_100 (lv_at hl 0 rfl) ?_
            obtain ⟨v120, τ121, ν122, hg, hf⟩ := bq_b3s hf
            refine bq_cV (bs := [bbB d ba ca na ta ka ia β, stB d na σ, stB d ta τ118, viB d ca ν119, coB d ca dy fa κ, lsB d ca L mc E.1, giB ca E.1 κ, P]) (bc := [bbB d ba ca na ta ka ia β, stB d na σ, stB d ta τ118, viB d ca ν119, coB d ca dy fa κ, lsB d ca L mc E.1, giB ca E.1 κ, P]) (br := []) (bc' := [bbB d ba ca na ta ka ia β, stB d na σ, stB d ta τ121, viB d ca ν122, coB d ca dy fa κ, lsB d ca L mc E.1, giB ca E.1 κ, P]) (bs' := [bbB d ba ca na ta ka ia β, stB d na σ, stB d ta τ121, viB d ca ν122, coB d ca dy fa κ, lsB d ca L mc E.1, giB ca E.1 κ, P]) (As := [.int x1, .int x2, .int (0 : Int32), .int (1 : Int32)]) (rest := [.int v117]) (o := (some (.int v120))) C hkc hks (met_bl_gains hok hamb hE hby hL hg) (bq_pm [0, 1, 2, 3, 4, 5, 6, 7] rfl rfl rfl) (bq_pm [0, 1, 2, 3, 4, 5, 6, 7] rfl rfl rfl) (lw_V q1650 q1652 qs46 q113 q1653) (hd_X1_gains) (Nat.le_of_ble_eq_true rfl) (Nat.le_of_ble_eq_true rfl) (va_recv hK hP (ci := 1) (q0 := 0) rfl rfl) rfl hl.1 rfl (Nat.le_of_ble_eq_true rfl) dX1_game_102 hP hD hS (fun H locs hP hD hS => ?_)
            refine lv_icmp_gt (tgt := 165) hx hb dX1_game_105 (by decide) (fun c123 => ?_) (fun c123 => ?_)
            · have hf := bq_ip c123 hf
              obtain ⟨v124, ev124, hf⟩ := bq_lts hf
              refine lv_iinc (v := v124) (lv' := [(6, .int v124), (8, .int (1 : Int32)), (7, .int (0 : Int32)), (0, .ref (ba 0)), (1, .int x1), (2, .int x2), (3, .int x3), (4, .int x4), (5, .int x5)]) hx hb dX1_game_165 hl (k := 8) rfl (bq_inc (by decide) ev124) (by decide) rfl (fun ls hl => ?_)
              refine lv_goto (tgt := 43) hx hb dX1_game_168 (by decide) ?_
              exact ih _ _ _ _ _ _ _ _ _ _ _ _ _ hf hP hD hS ls (lv_sub hl [3, 4, 5, 6, 7, 8, 0] rfl) hk0
            · have hf := bq_in c123 hf
              refine lv_aload_n hx hb dX1_game_108 rfl (lv_at hl 2 rfl) ?_
              refine lv_iload_n hx hb dX1_game_109 rfl (lv_at hl 4 rfl) ?_
              refine lv_iload_n hx hb dX1_game_110 rfl (lv_at hl 3 rfl) ?_
              refine lv_iload hx hb dX1_game_111 (lv_at hl 0 rfl) ?_
              refine lv_if_ne (tgt := 120) hx hb dX1_game_113 (by decide) (fun c125 => ?_) (fun c125 => ?_)
              · have hf := bq_in c125 hf
                refine lv_iconst (v := (0 : Int32)) hx hb dX1_game_120 (by decide) ?_
                refine lv_iload hx hb dX1_game_121 (lv_at hl 1 rfl) ?_
                obtain ⟨v126, τ127, ν128, hg, hf⟩ := bq_b3s hf
                refine bq_cV (bs := [bbB d ba ca na ta ka ia β, stB d na σ, stB d ta τ121, viB d ca ν122, coB d ca dy fa κ, lsB d ca L mc E.1, giB ca E.1 κ, P]) (bc := [bbB d ba ca na ta ka ia β, stB d na σ, stB d ta τ121, viB d ca ν122, coB d ca dy fa κ, lsB d ca L mc E.1, giB ca E.1 κ, P]) (br := []) (bc' := [bbB d ba ca na ta ka ia β, stB d na σ, stB d ta τ127, viB d ca ν128, coB d ca dy fa κ, lsB d ca L mc E.1, giB ca E.1 κ, P]) (bs' := [bbB d ba ca na ta ka ia β, stB d na σ, stB d ta τ127, viB d ca ν128, coB d ca dy fa κ, lsB d ca L mc E.1, giB ca E.1 κ, P]) (As := [.int x2, .int x1, .int (0 : Int32), .int (0 : Int32)]) (rest := []) (o := (some (.int v126))) C hkc hks (met_bl_gains hok hamb hE hby hL hg) (bq_pm [0, 1, 2, 3, 4, 5, 6, 7] rfl rfl rfl) (bq_pm [0, 1, 2, 3, 4, 5, 6, 7] rfl rfl rfl) (lw_V q1650 q1652 qs46 q113 q1653) (hd_X1_gains) (Nat.le_of_ble_eq_true rfl) (Nat.le_of_ble_eq_true rfl) (va_recv hK hP (ci := 1) (q0 := 0) rfl rfl) rfl hl.1 rfl (Nat.le_of_ble_eq_true rfl) dX1_game_123 hP hD hS (fun H locs hP hD hS => ?_)
                refine lv_aload_n hx hb dX1_game_126 rfl (lv_at hl 2 rfl) ?_
                refine lv_iload_n hx hb dX1_game_127 rfl (lv_at hl 4 rfl) ?_
                refine lv_iload_n hx hb dX1_game_128 rfl (lv_at hl 3 rfl) ?_
                refine lv_iload hx hb dX1_game_129 (lv_at hl 0 rfl) ?_
                refine lv_iload hx hb dX1_game_131 (lv_at hl 1 rfl) ?_
                obtain ⟨v129, τ130, ν131, hg, hf⟩ := bq_b3s hf
                refine bq_cV (bs := [bbB d ba ca na ta ka ia β, stB d na σ, stB d ta τ127, viB d ca ν128, coB d ca dy fa κ, lsB d ca L mc E.1, giB ca E.1 κ, P]) (bc := [bbB d ba ca na ta ka ia β, stB d na σ, stB d ta τ127, viB d ca ν128, coB d ca dy fa κ, lsB d ca L mc E.1, giB ca E.1 κ, P]) (br := []) (bc' := [bbB d ba ca na ta ka ia β, stB d na σ, stB d ta τ130, viB d ca ν131, coB d ca dy fa κ, lsB d ca L mc E.1, giB ca E.1 κ, P]) (bs' := [bbB d ba ca na ta ka ia β, stB d na σ, stB d ta τ130, viB d ca ν131, coB d ca dy fa κ, lsB d ca L mc E.1, giB ca E.1 κ, P]) (As := [.int x2, .int x1, .int (1 : Int32), .int (0 : Int32)]) (rest := [.int v126]) (o := (some (.int v129))) C hkc hks (met_bl_gains hok hamb hE hby hL hg) (bq_pm [0, 1, 2, 3, 4, 5, 6, 7] rfl rfl rfl) (bq_pm [0, 1, 2, 3, 4, 5, 6, 7] rfl rfl rfl) (lw_V q1650 q1652 qs46 q113 q1653) (hd_X1_gains) (Nat.le_of_ble_eq_true rfl) (Nat.le_of_ble_eq_true rfl) (va_recv hK hP (ci := 1) (q0 := 0) rfl rfl) rfl hl.1 rfl (Nat.le_of_ble_eq_true rfl) dX1_game_133 hP hD hS (fun H locs hP hD hS => ?_)
                refine lv_icmp_le (tgt := 142) hx hb dX1_game_136 (by decide) (fun c132 => ?_) (fun c132 => ?_)
                · have hf := bq_ip c132 hf
                  obtain ⟨v133, ev133, hf⟩ := bq_lts hf
                  refine lv_iinc (v := v133) (lv' := [(4, .int v133), (8, .int (1 : Int32)), (7, .int (0 : Int32)), (0, .ref (ba 0)), (1, .int x1), (2, .int x2), (3, .int x3), (5, .int x5), (6, .int x6)]) hx hb dX1_game_142 hl (k := 6) rfl (bq_inc (by decide) ev133) (by decide) rfl (fun ls hl => ?_)
                  refine lv_iload hx hb dX1_game_145 (lv_at hl 7 rfl) ?_
                  refine lv_iconst (v := (-1 : Int32)) hx hb dX1_game_147 (by decide) ?_
                  refine lv_icmp_ne (tgt := 165) hx hb dX1_game_148 (by decide) (fun c134 => ?_) (fun c134 => ?_)
                  · have hf := bq_in c134 hf
                    obtain ⟨v135, ev135, hf⟩ := bq_lts hf
                    refine lv_iinc (v := v135) (lv' := [(6, .int v135), (4, .int v133), (8, .int (1 : Int32)), (7, .int (0 : Int32)), (0, .ref (ba 0)), (1, .int x1), (2, .int x2), (3, .int x3), (5, .int x5)]) hx hb dX1_game_165 hl (k := 8) rfl (bq_inc (by decide) ev135) (by decide) rfl (fun ls hl => ?_)
                    refine lv_goto (tgt := 43) hx hb dX1_game_168 (by decide) ?_
                    exact ih _ _ _ _ _ _ _ _ _ _ _ _ _ hf hP hD hS ls (lv_sub hl [4, 5, 6, 7, 1, 8, 0] rfl) hk0
                  · have hf := bq_ip c134 hf
                    refine lv_iload hx hb dX1_game_151 (lv_at hl 8 rfl) ?_
                    refine lv_iconst (v := (2 : Int32)) hx hb dX1_game_153 (by decide) ?_
                    refine lv_idiv hx hb dX1_game_154 (by decide) ?_
                    refine lv_bipush (v := (10 : Int32)) hx hb dX1_game_155 (by decide) ?_
                    refine lv_imul hx hb dX1_game_157 ?_
                    refine lv_iload hx hb dX1_game_158 (lv_at hl 8 rfl) ?_
                    refine lv_iconst (v := (2 : Int32)) hx hb dX1_game_160 (by decide) ?_
                    refine lv_irem hx hb dX1_game_161 (by decide) ?_
                    refine lv_iadd hx hb dX1_game_162 ?_
                    obtain ⟨v136, ev136, hf⟩ := bq_lts hf
                    refine bq_tope ev136 ?_
                    refine lv_istore (lv' := [(5, .int v136), (4, .int v133), (8, .int (1 : Int32)), (7, .int (0 : Int32)), (0, .ref (ba 0)), (1, .int x1), (2, .int x2), (3, .int x3), (6, .int x6)]) hx hb dX1_game_163 hl (by decide) rfl (fun ls hl => ?_)
                    obtain ⟨v137, ev137, hf⟩ := bq_lts hf
                    refine lv_iinc (v := v137) (lv' := [(6, .int v137), (5, .int v136), (4, .int v133), (8, .int (1 : Int32)), (7, .int (0 : Int32)), (0, .ref (ba 0)), (1, .int x1), (2, .int x2), (3, .int x3)]) hx hb dX1_game_165 hl (k := 8) rfl (bq_inc (by decide) ev137) (by decide) rfl (fun ls hl => ?_)
                    refine lv_goto (tgt := 43) hx hb dX1_game_168 (by decide) ?_
                    exact ih _ _ _ _ _ _ _ _ _ _ _ _ _ hf hP hD hS ls (lv_sub hl [5, 6, 7, 8, 2, 1, 0] rfl) hk0
                · have hf := bq_in c132 hf
                  refine lv_goto (tgt := 165) hx hb dX1_game_139 (by decide) ?_
                  obtain ⟨v138, ev138, hf⟩ := bq_lts hf
                  refine lv_iinc (v := v138) (lv' := [(6, .int v138), (8, .int (1 : Int32)), (7, .int (0 : Int32)), (0, .ref (ba 0)), (1, .int x1), (2, .int x2), (3, .int x3), (4, .int x4), (5, .int x5)]) hx hb dX1_game_165 hl (k := 8) rfl (bq_inc (by decide) ev138) (by decide) rfl (fun ls hl => ?_)
                  refine lv_goto (tgt := 43) hx hb dX1_game_168 (by decide) ?_
                  exact ih _ _ _ _ _ _ _ _ _ _ _ _ _ hf hP hD hS ls (lv_sub hl [3, 4, 5, 6, 7, 8, 0] rfl) hk0
              · have hf := bq_ip c125 hf
                refine lv_iconst (v := (1 : Int32)) hx hb dX1_game_116 (by decide) ?_
                refine lv_goto (tgt := 121) hx hb dX1_game_117 (by decide) ?_
                refine lv_iload hx hb dX1_game_121 (lv_at hl 1 rfl) ?_
                obtain ⟨v139, τ140, ν141, hg, hf⟩ := bq_b3s hf
                refine bq_cV (bs := [bbB d ba ca na ta ka ia β, stB d na σ, stB d ta τ121, viB d ca ν122, coB d ca dy fa κ, lsB d ca L mc E.1, giB ca E.1 κ, P]) (bc := [bbB d ba ca na ta ka ia β, stB d na σ, stB d ta τ121, viB d ca ν122, coB d ca dy fa κ, lsB d ca L mc E.1, giB ca E.1 κ, P]) (br := []) (bc' := [bbB d ba ca na ta ka ia β, stB d na σ, stB d ta τ140, viB d ca ν141, coB d ca dy fa κ, lsB d ca L mc E.1, giB ca E.1 κ, P]) (bs' := [bbB d ba ca na ta ka ia β, stB d na σ, stB d ta τ140, viB d ca ν141, coB d ca dy fa κ, lsB d ca L mc E.1, giB ca E.1 κ, P]) (As := [.int x2, .int x1, .int (1 : Int32), .int (0 : Int32)]) (rest := []) (o := (some (.int v139))) C hkc hks (met_bl_gains hok hamb hE hby hL hg) (bq_pm [0, 1, 2, 3, 4, 5, 6, 7] rfl rfl rfl) (bq_pm [0, 1, 2, 3, 4, 5, 6, 7] rfl rfl rfl) (lw_V q1650 q1652 qs46 q113 q1653) (hd_X1_gains) (Nat.le_of_ble_eq_true rfl) (Nat.le_of_ble_eq_true rfl) (va_recv hK hP (ci := 1) (q0 := 0) rfl rfl) rfl hl.1 rfl (Nat.le_of_ble_eq_true rfl) dX1_game_123 hP hD hS (fun H locs hP hD hS => ?_)
                refine lv_aload_n hx hb dX1_game_126 rfl (lv_at hl 2 rfl) ?_
                refine lv_iload_n hx hb dX1_game_127 rfl (lv_at hl 4 rfl) ?_
                refine lv_iload_n hx hb dX1_game_128 rfl (lv_at hl 3 rfl) ?_
                refine lv_iload hx hb dX1_game_129 (lv_at hl 0 rfl) ?_
                refine lv_iload hx hb dX1_game_131 (lv_at hl 1 rfl) ?_
                obtain ⟨v142, τ143, ν144, hg, hf⟩ := bq_b3s hf
                refine bq_cV (bs := [bbB d ba ca na ta ka ia β, stB d na σ, stB d ta τ140, viB d ca ν141, coB d ca dy fa κ, lsB d ca L mc E.1, giB ca E.1 κ, P]) (bc := [bbB d ba ca na ta ka ia β, stB d na σ, stB d ta τ140, viB d ca ν141, coB d ca dy fa κ, lsB d ca L mc E.1, giB ca E.1 κ, P]) (br := []) (bc' := [bbB d ba ca na ta ka ia β, stB d na σ, stB d ta τ143, viB d ca ν144, coB d ca dy fa κ, lsB d ca L mc E.1, giB ca E.1 κ, P]) (bs' := [bbB d ba ca na ta ka ia β, stB d na σ, stB d ta τ143, viB d ca ν144, coB d ca dy fa κ, lsB d ca L mc E.1, giB ca E.1 κ, P]) (As := [.int x2, .int x1, .int (1 : Int32), .int (0 : Int32)]) (rest := [.int v139]) (o := (some (.int v142))) C hkc hks (met_bl_gains hok hamb hE hby hL hg) (bq_pm [0, 1, 2, 3, 4, 5, 6, 7] rfl rfl rfl) (bq_pm [0, 1, 2, 3, 4, 5, 6, 7] rfl rfl rfl) (lw_V q1650 q1652 qs46 q113 q1653) (hd_X1_gains) (Nat.le_of_ble_eq_true rfl) (Nat.le_of_ble_eq_true rfl) (va_recv hK hP (ci := 1) (q0 := 0) rfl rfl) rfl hl.1 rfl (Nat.le_of_ble_eq_true rfl) dX1_game_133 hP hD hS (fun H locs hP hD hS => ?_)
                refine lv_icmp_le (tgt := 142) hx hb dX1_game_136 (by decide) (fun c145 => ?_) (fun c145 => ?_)
                · have hf := bq_ip c145 hf
                  obtain ⟨v146, ev146, hf⟩ := bq_lts hf
                  refine lv_iinc (v := v146) (lv' := [(4, .int v146), (8, .int (1 : Int32)), (7, .int (0 : Int32)), (0, .ref (ba 0)), (1, .int x1), (2, .int x2), (3, .int x3), (5, .int x5), (6, .int x6)]) hx hb dX1_game_142 hl (k := 6) rfl (bq_inc (by decide) ev146) (by decide) rfl (fun ls hl => ?_)
                  refine lv_iload hx hb dX1_game_145 (lv_at hl 7 rfl) ?_
                  refine lv_iconst (v := (-1 : Int32)) hx hb dX1_game_147 (by decide) ?_
                  refine lv_icmp_ne (tgt := 165) hx hb dX1_game_148 (by decide) (fun c147 => ?_) (fun c147 => ?_)
                  · have hf := bq_in c147 hf
                    obtain ⟨v148, ev148, hf⟩ := bq_lts hf
                    refine lv_iinc (v := v148) (lv' := [(6, .int v148), (4, .int v146), (8, .int (1 : Int32)), (7, .int (0 : Int32)), (0, .ref (ba 0)), (1, .int x1), (2, .int x2), (3, .int x3), (5, .int x5)]) hx hb dX1_game_165 hl (k := 8) rfl (bq_inc (by decide) ev148) (by decide) rfl (fun ls hl => ?_)
                    refine lv_goto (tgt := 43) hx hb dX1_game_168 (by decide) ?_
                    exact ih _ _ _ _ _ _ _ _ _ _ _ _ _ hf hP hD hS ls (lv_sub hl [4, 5, 6, 7, 1, 8, 0] rfl) hk0
                  · have hf := bq_ip c147 hf
                    refine lv_iload hx hb dX1_game_151 (lv_at hl 8 rfl) ?_
                    refine lv_iconst (v := (2 : Int32)) hx hb dX1_game_153 (by decide) ?_
                    refine lv_idiv hx hb dX1_game_154 (by decide) ?_
                    refine lv_bipush (v := (10 : Int32)) hx hb dX1_game_155 (by decide) ?_
                    refine lv_imul hx hb dX1_game_157 ?_
                    refine lv_iload hx hb dX1_game_158 (lv_at hl 8 rfl) ?_
                    refine lv_iconst (v := (2 : Int32)) hx hb dX1_game_160 (by decide) ?_
                    refine lv_irem hx hb dX1_game_161 (by decide) ?_
                    refine lv_iadd hx hb dX1_game_162 ?_
                    obtain ⟨v149, ev149, hf⟩ := bq_lts hf
                    refine bq_tope ev149 ?_
                    refine lv_istore (lv' := [(5, .int v149), (4, .int v146), (8, .int (1 : Int32)), (7, .int (0 : Int32)), (0, .ref (ba 0)), (1, .int x1), (2, .int x2), (3, .int x3), (6, .int x6)]) hx hb dX1_game_163 hl (by decide) rfl (fun ls hl => ?_)
                    obtain ⟨v150, ev150, hf⟩ := bq_lts hf
                    refine lv_iinc (v := v150) (lv' := [(6, .int v150), (5, .int v149), (4, .int v146), (8, .int (1 : Int32)), (7, .int (0 : Int32)), (0, .ref (ba 0)), (1, .int x1), (2, .int x2), (3, .int x3)]) hx hb dX1_game_165 hl (k := 8) rfl (bq_inc (by decide) ev150) (by decide) rfl (fun ls hl => ?_)
                    refine lv_goto (tgt := 43) hx hb dX1_game_168 (by decide) ?_
                    exact ih _ _ _ _ _ _ _ _ _ _ _ _ _ hf hP hD hS ls (lv_sub hl [5, 6, 7, 8, 2, 1, 0] rfl) hk0
                · have hf := bq_in c145 hf
                  refine lv_goto (tgt := 165) hx hb dX1_game_139 (by decide) ?_
                  obtain ⟨v151, ev151, hf⟩ := bq_lts hf
                  refine lv_iinc (v := v151) (lv' := [(6, .int v151), (8, .int (1 : Int32)), (7, .int (0 : Int32)), (0, .ref (ba 0)), (1, .int x1), (2, .int x2), (3, .int x3), (4, .int x4), (5, .int x5)]) hx hb dX1_game_165 hl (k := 8) rfl (bq_inc (by decide) ev151) (by decide) rfl (fun ls hl => ?_)
                  refine lv_goto (tgt := 43) hx hb dX1_game_168 (by decide) ?_
                  exact ih _ _ _ _ _ _ _ _ _ _ _ _ _ hf hP hD hS ls (lv_sub hl [3, 4, 5, 6, 7, 8, 0] rfl) hk0
      · have hf := bq_in c8 hf
        refine lv_iconst (v := (1 : Int32)) hx hb dX1_game_55 (by decide) ?_
        refine lv_goto (tgt := 60) hx hb dX1_game_56 (by decide) ?_
        refine lv_istore (lv' := [(7, .int (1 : Int32)), (0, .ref (ba 0)), (1, .int x1), (2, .int x2), (3, .int x3), (4, .int x4), (5, .int x5), (6, .int x6)]) hx hb dX1_game_60 hl (by decide) rfl (fun ls hl => ?_)
        refine lv_iload hx hb dX1_game_62 (lv_at hl 7 rfl) ?_
        refine lv_iconst (v := (2 : Int32)) hx hb dX1_game_64 (by decide) ?_
        refine lv_irem hx hb dX1_game_65 (by decide) ?_
        refine lv_iconst (v := (1 : Int32)) hx hb dX1_game_66 (by decide) ?_
        refine lv_icmp_ne (tgt := 74) hx hb dX1_game_67 (by decide) (fun c152 => ?_) (fun c152 => ?_)
        · have hf := bq_in c152 hf
          refine lv_iconst (v := (0 : Int32)) hx hb dX1_game_74 (by decide) ?_
          refine lv_istore (lv' := [(8, .int (0 : Int32)), (7, .int (1 : Int32)), (0, .ref (ba 0)), (1, .int x1), (2, .int x2), (3, .int x3), (4, .int x4), (5, .int x5), (6, .int x6)]) hx hb dX1_game_75 hl (by decide) rfl (fun ls hl => ?_)
          refine lv_aload_n hx hb dX1_game_77 rfl (lv_at hl 2 rfl) ?_
          refine lv_iload_n hx hb dX1_game_78 rfl (lv_at hl 3 rfl) ?_
          refine lv_iload_n hx hb dX1_game_79 rfl (lv_at hl 4 rfl) ?_
          refine lv_iload hx hb dX1_game_80 (lv_at hl 1 rfl) ?_
          refine lv_if_ne (tgt := 89) hx hb dX1_game_82 (by decide) (fun c153 => ?_) (fun c153 => ?_)
          · have hf := bq_in c153 hf
            refine lv_iconst (v := (0 : Int32)) hx hb dX1_game_89 (by decide) ?_
            refine lv_iload hx hb dX1_game_90 (lv_at hl 0 rfl) ?_
            obtain ⟨v154, τ155, ν156, hg, hf⟩ := bq_b3s hf
            refine bq_cV (bs := [bbB d ba ca na ta ka ia β, stB d na σ, stB d ta τ, viB d ca ν, coB d ca dy fa κ, lsB d ca L mc E.1, giB ca E.1 κ, P]) (bc := [bbB d ba ca na ta ka ia β, stB d na σ, stB d ta τ, viB d ca ν, coB d ca dy fa κ, lsB d ca L mc E.1, giB ca E.1 κ, P]) (br := []) (bc' := [bbB d ba ca na ta ka ia β, stB d na σ, stB d ta τ155, viB d ca ν156, coB d ca dy fa κ, lsB d ca L mc E.1, giB ca E.1 κ, P]) (bs' := [bbB d ba ca na ta ka ia β, stB d na σ, stB d ta τ155, viB d ca ν156, coB d ca dy fa κ, lsB d ca L mc E.1, giB ca E.1 κ, P]) (As := [.int x1, .int x2, .int (0 : Int32), .int (0 : Int32)]) (rest := []) (o := (some (.int v154))) C hkc hks (met_bl_gains hok hamb hE hby hL hg) (bq_pm [0, 1, 2, 3, 4, 5, 6, 7] rfl rfl rfl) (bq_pm [0, 1, 2, 3, 4, 5, 6, 7] rfl rfl rfl) (lw_V q1650 q1652 qs46 q113 q1653) (hd_X1_gains) (Nat.le_of_ble_eq_true rfl) (Nat.le_of_ble_eq_true rfl) (va_recv hK hP (ci := 1) (q0 := 0) rfl rfl) rfl hl.1 rfl (Nat.le_of_ble_eq_true rfl) dX1_game_92 hP hD hS (fun H locs hP hD hS => ?_)
            refine lv_aload_n hx hb dX1_game_95 rfl (lv_at hl 2 rfl) ?_
            refine lv_iload_n hx hb dX1_game_96 rfl (lv_at hl 3 rfl) ?_
            refine lv_iload_n hx hb dX1_game_97 rfl (lv_at hl 4 rfl) ?_
            refine lv_iload hx hb dX1_game_98 (lv_at hl 1 rfl) ?_
            refine lv_iload hx hb dX1_game_100 (lv_at hl 0 rfl) ?_
            obtain ⟨v157, τ158, ν159, hg, hf⟩ := bq_b3s hf
            refine bq_cV (bs := [bbB d ba ca na ta ka ia β, stB d na σ, stB d ta τ155, viB d ca ν156, coB d ca dy fa κ, lsB d ca L mc E.1, giB ca E.1 κ, P]) (bc := [bbB d ba ca na ta ka ia β, stB d na σ, stB d ta τ155, viB d ca ν156, coB d ca dy fa κ, lsB d ca L mc E.1, giB ca E.1 κ, P]) (br := []) (bc' := [bbB d ba ca na ta ka ia β, stB d na σ, stB d ta τ158, viB d ca ν159, coB d ca dy fa κ, lsB d ca L mc E.1, giB ca E.1 κ, P]) (bs' := [bbB d ba ca na ta ka ia β, stB d na σ, stB d ta τ158, viB d ca ν159, coB d ca dy fa κ, lsB d ca L mc E.1, giB ca E.1 κ, P]) (As := [.int x1, .int x2, .int (1 : Int32), .int (0 : Int32)]) (rest := [.int v154]) (o := (some (.int v157))) C hkc hks (met_bl_gains hok hamb hE hby hL hg) (bq_pm [0, 1, 2, 3, 4, 5, 6, 7] rfl rfl rfl) (bq_pm [0, 1, 2, 3, 4, 5, 6, 7] rfl rfl rfl) (lw_V q1650 q1652 qs46 q113 q1653) (hd_X1_gains) (Nat.le_of_ble_eq_true rfl) (Nat.le_of_ble_eq_true rfl) (va_recv hK hP (ci := 1) (q0 := 0) rfl rfl) rfl hl.1 rfl (Nat.le_of_ble_eq_true rfl) dX1_game_102 hP hD hS (fun H locs hP hD hS => ?_)
            refine lv_icmp_gt (tgt := 165) hx hb dX1_game_105 (by decide) (fun c160 => ?_) (fun c160 => ?_)
            · have hf := bq_ip c160 hf
              obtain ⟨v161, ev161, hf⟩ := bq_lts hf
              refine lv_iinc (v := v161) (lv' := [(6, .int v161), (8, .int (0 : Int32)), (7, .int (1 : Int32)), (0, .ref (ba 0)), (1, .int x1), (2, .int x2), (3, .int x3), (4, .int x4), (5, .int x5)]) hx hb dX1_game_165 hl (k := 8) rfl (bq_inc (by decide) ev161) (by decide) rfl (fun ls hl => ?_)
              refine lv_goto (tgt := 43) hx hb dX1_game_168 (by decide) ?_
              exact ih _ _ _ _ _ _ _ _ _ _ _ _ _ hf hP hD hS ls (lv_sub hl [3, 4, 5, 6, 7, 8, 0] rfl) hk0
            · have hf := bq_in c160 hf
              refine lv_aload_n hx hb dX1_game_108 rfl (lv_at hl 2 rfl) ?_
              refine lv_iload_n hx hb dX1_game_109 rfl (lv_at hl 4 rfl) ?_
              refine lv_iload_n hx hb dX1_game_110 rfl (lv_at hl 3 rfl) ?_
              refine lv_iload hx hb dX1_game_111 (lv_at hl 0 rfl) ?_
              refine lv_if_ne (tgt := 120) hx hb dX1_game_113 (by decide) (fun c162 => ?_) (fun c162 => ?_)
              · have hf := bq_in c162 hf
                refine lv_iconst (v := (0 : Int32)) hx hb dX1_game_120 (by decide) ?_
                refine lv_iload hx hb dX1_game_121 (lv_at hl 1 rfl) ?_
                obtain ⟨v163, τ164, ν165, hg, hf⟩ := bq_b3s hf
                refine bq_cV (bs := [bbB d ba ca na ta ka ia β, stB d na σ, stB d ta τ158, viB d ca ν159, coB d ca dy fa κ, lsB d ca L mc E.1, giB ca E.1 κ, P]) (bc := [bbB d ba ca na ta ka ia β, stB d na σ, stB d ta τ158, viB d ca ν159, coB d ca dy fa κ, lsB d ca L mc E.1, giB ca E.1 κ, P]) (br := []) (bc' := [bbB d ba ca na ta ka ia β, stB d na σ, stB d ta τ164, viB d ca ν165, coB d ca dy fa κ, lsB d ca L mc E.1, giB ca E.1 κ, P]) (bs' := [bbB d ba ca na ta ka ia β, stB d na σ, stB d ta τ164, viB d ca ν165, coB d ca dy fa κ, lsB d ca L mc E.1, giB ca E.1 κ, P]) (As := [.int x2, .int x1, .int (0 : Int32), .int (1 : Int32)]) (rest := []) (o := (some (.int v163))) C hkc hks (met_bl_gains hok hamb hE hby hL hg) (bq_pm [0, 1, 2, 3, 4, 5, 6, 7] rfl rfl rfl) (bq_pm [0, 1, 2, 3, 4, 5, 6, 7] rfl rfl rfl) (lw_V q1650 q1652 qs46 q113 q1653) (hd_X1_gains) (Nat.le_of_ble_eq_true rfl) (Nat.le_of_ble_eq_true rfl) (va_recv hK hP (ci := 1) (q0 := 0) rfl rfl) rfl hl.1 rfl (Nat.le_of_ble_eq_true rfl) dX1_game_123 hP hD hS (fun H locs hP hD hS => ?_)
                refine lv_aload_n hx hb dX1_game_126 rfl (lv_at hl 2 rfl) ?_
                refine lv_iload_n hx hb dX1_game_127 rfl (lv_at hl 4 rfl) ?_
                refine lv_iload_n hx hb dX1_game_128 rfl (lv_at hl 3 rfl) ?_
                refine lv_iload hx hb dX1_game_129 (lv_at hl 0 rfl) ?_
                refine lv_iload hx hb dX1_game_131 (lv_at hl 1 rfl) ?_
                obtain ⟨v166, τ167, ν168, hg, hf⟩ := bq_b3s hf
                refine bq_cV (bs := [bbB d ba ca na ta ka ia β, stB d na σ, stB d ta τ164, viB d ca ν165, coB d ca dy fa κ, lsB d ca L mc E.1, giB ca E.1 κ, P]) (bc := [bbB d ba ca na ta ka ia β, stB d na σ, stB d ta τ164, viB d ca ν165, coB d ca dy fa κ, lsB d ca L mc E.1, giB ca E.1 κ, P]) (br := []) (bc' := [bbB d ba ca na ta ka ia β, stB d na σ, stB d ta τ167, viB d ca ν168, coB d ca dy fa κ, lsB d ca L mc E.1, giB ca E.1 κ, P]) (bs' := [bbB d ba ca na ta ka ia β, stB d na σ, stB d ta τ167, viB d ca ν168, coB d ca dy fa κ, lsB d ca L mc E.1, giB ca E.1 κ, P]) (As := [.int x2, .int x1, .int (0 : Int32), .int (1 : Int32)]) (rest := [.int v163]) (o := (some (.int v166))) C hkc hks (met_bl_gains hok hamb hE hby hL hg) (bq_pm [0, 1, 2, 3, 4, 5, 6, 7] rfl rfl rfl) (bq_pm [0, 1, 2, 3, 4, 5, 6, 7] rfl rfl rfl) (lw_V q1650 q1652 qs46 q113 q1653) (hd_X1_gains) (Nat.le_of_ble_eq_true rfl) (Nat.le_of_ble_eq_true rfl) (va_recv hK hP (ci := 1) (q0 := 0) rfl rfl) rfl hl.1 rfl (Nat.le_of_ble_eq_true rfl) dX1_game_133 hP hD hS (fun H locs hP hD hS => ?_)
                refine lv_icmp_le (tgt := 142) hx hb dX1_game_136 (by decide) (fun c169 => ?_) (fun c169 => ?_)
                · have hf := bq_ip c169 hf
                  obtain ⟨v170, ev170, hf⟩ := bq_lts hf
                  refine lv_iinc (v := v170) (lv' := [(4, .int v170), (8, .int (0 : Int32)), (7, .int (1 : Int32)), (0, .ref (ba 0)), (1, .int x1), (2, .int x2), (3, .int x3), (5, .int x5), (6, .int x6)]) hx hb dX1_game_142 hl (k := 6) rfl (bq_inc (by decide) ev170) (by decide) rfl (fun ls hl => ?_)
                  refine lv_iload hx hb dX1_game_145 (lv_at hl 7 rfl) ?_
                  refine lv_iconst (v := (-1 : Int32)) hx hb dX1_game_147 (by decide) ?_
                  refine lv_icmp_ne (tgt := 165) hx hb dX1_game_148 (by decide) (fun c171 => ?_) (fun c171 => ?_)
                  · have hf := bq_in c171 hf
                    obtain ⟨v172, ev172, hf⟩ := bq_lts hf
                    refine lv_iinc (v := v172) (lv' := [(6, .int v172), (4, .int v170), (8, .int (0 : Int32)), (7, .int (1 : Int32)), (0, .ref (ba 0)), (1, .int x1), (2, .int x2), (3, .int x3), (5, .int x5)]) hx hb dX1_game_165 hl (k := 8) rfl (bq_inc (by decide) ev172) (by decide) rfl (fun ls hl => ?_)
                    refine lv_goto (tgt := 43) hx hb dX1_game_168 (by decide) ?_
                    exact ih _ _ _ _ _ _ _ _ _ _ _ _ _ hf hP hD hS ls (lv_sub hl [4, 5, 6, 7, 1, 8, 0] rfl) hk0
                  · have hf := bq_ip c171 hf
                    refine lv_iload hx hb dX1_game_151 (lv_at hl 8 rfl) ?_
                    refine lv_iconst (v := (2 : Int32)) hx hb dX1_game_153 (by decide) ?_
                    refine lv_idiv hx hb dX1_game_154 (by decide) ?_
                    refine lv_bipush (v := (10 : Int32)) hx hb dX1_game_155 (by decide) ?_
                    refine lv_imul hx hb dX1_game_157 ?_
                    refine lv_iload hx hb dX1_game_158 (lv_at hl 8 rfl) ?_
                    refine lv_iconst (v := (2 : Int32)) hx hb dX1_game_160 (by decide) ?_
                    refine lv_irem hx hb dX1_game_161 (by decide) ?_
                    refine lv_iadd hx hb dX1_game_162 ?_
                    obtain ⟨v173, ev173, hf⟩ := bq_lts hf
                    refine bq_tope ev173 ?_
                    refine lv_istore (lv' := [(5, .int v173), (4, .int v170), (8, .int (0 : Int32)), (7, .int (1 : Int32)), (0, .ref (ba 0)), (1, .int x1), (2, .int x2), (3, .int x3), (6, .int x6)]) hx hb dX1_game_163 hl (by decide) rfl (fun ls hl => ?_)
                    obtain ⟨v174, ev174, hf⟩ := bq_lts hf
                    refine lv_iinc (v := v174) (lv' := [(6, .int v174), (5, .int v173), (4, .int v170), (8, .int (0 : Int32)), (7, .int (1 : Int32)), (0, .ref (ba 0)), (1, .int x1), (2, .int x2), (3, .int x3)]) hx hb dX1_game_165 hl (k := 8) rfl (bq_inc (by decide) ev174) (by decide) rfl (fun ls hl => ?_)
                    refine lv_goto (tgt := 43) hx hb dX1_game_168 (by decide) ?_
                    exact ih _ _ _ _ _ _ _ _ _ _ _ _ _ hf hP hD hS ls (lv_sub hl [5, 6, 7, 8, 2, 1, 0] rfl) hk0
                · have hf := bq_in c169 hf
                  refine lv_goto (tgt := 165) hx hb dX1_game_139 (by decide) ?_
                  obtain ⟨v175, ev175, hf⟩ := bq_lts hf
                  refine lv_iinc (v := v175) (lv' := [(6, .int v175), (8, .int (0 : Int32)), (7, .int (1 : Int32)), (0, .ref (ba 0)), (1, .int x1), (2, .int x2), (3, .int x3), (4, .int x4), (5, .int x5)]) hx hb dX1_game_165 hl (k := 8) rfl (bq_inc (by decide) ev175) (by decide) rfl (fun ls hl => ?_)
                  refine lv_goto (tgt := 43) hx hb dX1_game_168 (by decide) ?_
                  exact ih _ _ _ _ _ _ _ _ _ _ _ _ _ hf hP hD hS ls (lv_sub hl [3, 4, 5, 6, 7, 8, 0] rfl) hk0
              · have hf := bq_ip c162 hf
                refine lv_iconst (v := (1 : Int32)) hx hb dX1_game_116 (by decide) ?_
                refine lv_goto (tgt := 121) hx hb dX1_game_117 (by decide) ?_
                refine lv_iload hx hb dX1_game_121 (lv_at hl 1 rfl) ?_
                obtain ⟨v176, τ177, ν178, hg, hf⟩ := bq_b3s hf
                refine bq_cV (bs := [bbB d ba ca na ta ka ia β, stB d na σ, stB d ta τ158, viB d ca ν159, coB d ca dy fa κ, lsB d ca L mc E.1, giB ca E.1 κ, P]) (bc := [bbB d ba ca na ta ka ia β, stB d na σ, stB d ta τ158, viB d ca ν159, coB d ca dy fa κ, lsB d ca L mc E.1, giB ca E.1 κ, P]) (br := []) (bc' := [bbB d ba ca na ta ka ia β, stB d na σ, stB d ta τ177, viB d ca ν178, coB d ca dy fa κ, lsB d ca L mc E.1, giB ca E.1 κ, P]) (bs' := [bbB d ba ca na ta ka ia β, stB d na σ, stB d ta τ177, viB d ca ν178, coB d ca dy fa κ, lsB d ca L mc E.1, giB ca E.1 κ, P]) (As := [.int x2, .int x1, .int (1 : Int32), .int (1 : Int32)]) (rest := []) (o := (some (.int v176))) C hkc hks (met_bl_gains hok hamb hE hby hL hg) (bq_pm [0, 1, 2, 3, 4, 5, 6, 7] rfl rfl rfl) (bq_pm [0, 1, 2, 3, 4, 5, 6, 7] rfl rfl rfl) (lw_V q1650 q1652 qs46 q113 q1653) (hd_X1_gains) (Nat.le_of_ble_eq_true rfl) (Nat.le_of_ble_eq_true rfl) (va_recv hK hP (ci := 1) (q0 := 0) rfl rfl) rfl hl.1 rfl (Nat.le_of_ble_eq_true rfl) dX1_game_123 hP hD hS (fun H locs hP hD hS => ?_)
                refine lv_aload_n hx hb dX1_game_126 rfl (lv_at hl 2 rfl) ?_
                refine lv_iload_n hx hb dX1_game_127 rfl (lv_at hl 4 rfl) ?_
                refine lv_iload_n hx hb dX1_game_128 rfl (lv_at hl 3 rfl) ?_
                refine lv_iload hx hb dX1_game_129 (lv_at hl 0 rfl) ?_
                refine lv_iload hx hb dX1_game_131 (lv_at hl 1 rfl) ?_
                obtain ⟨v179, τ180, ν181, hg, hf⟩ := bq_b3s hf
                refine bq_cV (bs := [bbB d ba ca na ta ka ia β, stB d na σ, stB d ta τ177, viB d ca ν178, coB d ca dy fa κ, lsB d ca L mc E.1, giB ca E.1 κ, P]) (bc := [bbB d ba ca na ta ka ia β, stB d na σ, stB d ta τ177, viB d ca ν178, coB d ca dy fa κ, lsB d ca L mc E.1, giB ca E.1 κ, P]) (br := []) (bc' := [bbB d ba ca na ta ka ia β, stB d na σ, stB d ta τ180, viB d ca ν181, coB d ca dy fa κ, lsB d ca L mc E.1, giB ca E.1 κ, P]) (bs' := [bbB d ba ca na ta ka ia β, stB d na σ, stB d ta τ180, viB d ca ν181, coB d ca dy fa κ, lsB d ca L mc E.1, giB ca E.1 κ, P]) (As := [.int x2, .int x1, .int (0 : Int32), .int (1 : Int32)]) (rest := [.int v176]) (o := (some (.int v179))) C hkc hks (met_bl_gains hok hamb hE hby hL hg) (bq_pm [0, 1, 2, 3, 4, 5, 6, 7] rfl rfl rfl) (bq_pm [0, 1, 2, 3, 4, 5, 6, 7] rfl rfl rfl) (lw_V q1650 q1652 qs46 q113 q1653) (hd_X1_gains) (Nat.le_of_ble_eq_true rfl) (Nat.le_of_ble_eq_true rfl) (va_recv hK hP (ci := 1) (q0 := 0) rfl rfl) rfl hl.1 rfl (Nat.le_of_ble_eq_true rfl) dX1_game_133 hP hD hS (fun H locs hP hD hS => ?_)
                refine lv_icmp_le (tgt := 142) hx hb dX1_game_136 (by decide) (fun c182 => ?_) (fun c182 => ?_)
                · have hf := bq_ip c182 hf
                  obtain ⟨v183, ev183, hf⟩ := bq_lts hf
                  refine lv_iinc (v := v183) (lv' := [(4, .int v183), (8, .int (0 : Int32)), (7, .int (1 : Int32)), (0, .ref (ba 0)), (1, .int x1), (2, .int x2), (3, .int x3), (5, .int x5), (6, .int x6)]) hx hb dX1_game_142 hl (k := 6) rfl (bq_inc (by decide) ev183) (by decide) rfl (fun ls hl => ?_)
                  refine lv_iload hx hb dX1_game_145 (lv_at hl 7 rfl) ?_
                  refine lv_iconst (v := (-1 : Int32)) hx hb dX1_game_147 (by decide) ?_
                  refine lv_icmp_ne (tgt := 165) hx hb dX1_game_148 (by decide) (fun c184 => ?_) (fun c184 => ?_)
                  · have hf := bq_in c184 hf
                    obtain ⟨v185, ev185, hf⟩ := bq_lts hf
                    refine lv_iinc (v := v185) (lv' := [(6, .int v185), (4, .int v183), (8, .int (0 : Int32)), (7, .int (1 : Int32)), (0, .ref (ba 0)), (1, .int x1), (2, .int x2), (3, .int x3), (5, .int x5)]) hx hb dX1_game_165 hl (k := 8) rfl (bq_inc (by decide) ev185) (by decide) rfl (fun ls hl => ?_)
                    refine lv_goto (tgt := 43) hx hb dX1_game_168 (by decide) ?_
                    exact ih _ _ _ _ _ _ _ _ _ _ _ _ _ hf hP hD hS ls (lv_sub hl [4, 5, 6, 7, 1, 8, 0] rfl) hk0
                  · have hf := bq_ip c184 hf
                    refine lv_iload hx hb dX1_game_151 (lv_at hl 8 rfl) ?_
                    refine lv_iconst (v := (2 : Int32)) hx hb dX1_game_153 (by decide) ?_
                    refine lv_idiv hx hb dX1_game_154 (by decide) ?_
                    refine lv_bipush (v := (10 : Int32)) hx hb dX1_game_155 (by decide) ?_
                    refine lv_imul hx hb dX1_game_157 ?_
                    refine lv_iload hx hb dX1_game_158 (lv_at hl 8 rfl) ?_
                    refine lv_iconst (v := (2 : Int32)) hx hb dX1_game_160 (by decide) ?_
                    refine lv_irem hx hb dX1_game_161 (by decide) ?_
                    refine lv_iadd hx hb dX1_game_162 ?_
                    obtain ⟨v186, ev186, hf⟩ := bq_lts hf
                    refine bq_tope ev186 ?_
                    refine lv_istore (lv' := [(5, .int v186), (4, .int v183), (8, .int (0 : Int32)), (7, .int (1 : Int32)), (0, .ref (ba 0)), (1, .int x1), (2, .int x2), (3, .int x3), (6, .int x6)]) hx hb dX1_game_163 hl (by decide) rfl (fun ls hl => ?_)
                    obtain ⟨v187, ev187, hf⟩ := bq_lts hf
                    refine lv_iinc (v := v187) (lv' := [(6, .int v187), (5, .int v186), (4, .int v183), (8, .int (0 : Int32)), (7, .int (1 : Int32)), (0, .ref (ba 0)), (1, .int x1), (2, .int x2), (3, .int x3)]) hx hb dX1_game_165 hl (k := 8) rfl (bq_inc (by decide) ev187) (by decide) rfl (fun ls hl => ?_)
                    refine lv_goto (tgt := 43) hx hb dX1_game_168 (by decide) ?_
                    exact ih _ _ _ _ _ _ _ _ _ _ _ _ _ hf hP hD hS ls (lv_sub hl [5, 6, 7, 8, 2, 1, 0] rfl) hk0
                · have hf := bq_in c182 hf
                  refine lv_goto (tgt := 165) hx hb dX1_game_139 (by decide) ?_
                  obtain ⟨v188, ev188, hf⟩ := bq_lts hf
                  refine lv_iinc (v := v188) (lv' := [(6, .int v188), (8, .int (0 : Int32)), (7, .int (1 : Int32)), (0, .ref (ba 0)), (1, .int x1), (2, .int x2), (3, .int x3), (4, .int x4), (5, .int x5)]) hx hb dX1_game_165 hl (k := 8) rfl (bq_inc (by decide) ev188) (by decide) rfl (fun ls hl => ?_)
                  refine lv_goto (tgt := 43) hx hb dX1_game_168 (by decide) ?_
                  exact ih _ _ _ _ _ _ _ _ _ _ _ _ _ hf hP hD hS ls (lv_sub hl [3, 4, 5, 6, 7, 8, 0] rfl) hk0
          · have hf := bq_ip c153 hf
            refine lv_iconst (v := (1 : Int32)) hx hb dX1_game_85 (by decide) ?_
            refine lv_goto (tgt := 90) hx hb dX1_game_86 (by decide) ?_
            refine lv_iload hx hb dX1_game_90 (lv_at hl 0 rfl) ?_
            obtain ⟨v189, τ190, ν191, hg, hf⟩ := bq_b3s hf
            refine bq_cV (bs := [bbB d ba ca na ta ka ia β, stB d na σ, stB d ta τ, viB d ca ν, coB d ca dy fa κ, lsB d ca L mc E.1, giB ca E.1 κ, P]) (bc := [bbB d ba ca na ta ka ia β, stB d na σ, stB d ta τ, viB d ca ν, coB d ca dy fa κ, lsB d ca L mc E.1, giB ca E.1 κ, P]) (br := []) (bc' := [bbB d ba ca na ta ka ia β, stB d na σ, stB d ta τ190, viB d ca ν191, coB d ca dy fa κ, lsB d ca L mc E.1, giB ca E.1 κ, P]) (bs' := [bbB d ba ca na ta ka ia β, stB d na σ, stB d ta τ190, viB d ca ν191, coB d ca dy fa κ, lsB d ca L mc E.1, giB ca E.1 κ, P]) (As := [.int x1, .int x2, .int (1 : Int32), .int (0 : Int32)]) (rest := []) (o := (some (.int v189))) C hkc hks (met_bl_gains hok hamb hE hby hL hg) (bq_pm [0, 1, 2, 3, 4, 5, 6, 7] rfl rfl rfl) (bq_pm [0, 1, 2, 3, 4, 5, 6, 7] rfl rfl rfl) (lw_V q1650 q1652 qs46 q113 q1653) (hd_X1_gains) (Nat.le_of_ble_eq_true rfl) (Nat.le_of_ble_eq_true rfl) (va_recv hK hP (ci := 1) (q0 := 0) rfl rfl) rfl hl.1 rfl (Nat.le_of_ble_eq_true rfl) dX1_game_92 hP hD hS (fun H locs hP hD hS => ?_)
            refine lv_aload_n hx hb dX1_game_95 rfl (lv_at hl 2 rfl) ?_
            refine lv_iload_n hx hb dX1_game_96 rfl (lv_at hl 3 rfl) ?_
            refine lv_iload_n hx hb dX1_game_97 rfl (lv_at hl 4 rfl) ?_
            refine lv_iload hx hb dX1_game_98 (lv_at hl 1 rfl) ?_
            refine lv_iload hx hb dX1_game_100 (lv_at hl 0 rfl) ?_
            obtain ⟨v192, τ193, ν194, hg, hf⟩ := bq_b3s hf
            refine bq_cV (bs := [bbB d ba ca na ta ka ia β, stB d na σ, stB d ta τ190, viB d ca ν191, coB d ca dy fa κ, lsB d ca L mc E.1, giB ca E.1 κ, P]) (bc := [bbB d ba ca na ta ka ia β, stB d na σ, stB d ta τ190, viB d ca ν191, coB d ca dy fa κ, lsB d ca L mc E.1, giB ca E.1 κ, P]) (br := []) (bc' := [bbB d ba ca na ta ka ia β, stB d na σ, stB d ta τ193, viB d ca ν194, coB d ca dy fa κ, lsB d ca L mc E.1, giB ca E.1 κ, P]) (bs' := [bbB d ba ca na ta ka ia β, stB d na σ, stB d ta τ193, viB d ca ν194, coB d ca dy fa κ, lsB d ca L mc E.1, giB ca E.1 κ, P]) (As := [.int x1, .int x2, .int (1 : Int32), .int (0 : Int32)]) (rest := [.int v189]) (o := (some (.int v192))) C hkc hks (met_bl_gains hok hamb hE hby hL hg) (bq_pm [0, 1, 2, 3, 4, 5, 6, 7] rfl rfl rfl) (bq_pm [0, 1, 2, 3, 4, 5, 6, 7] rfl rfl rfl) (lw_V q1650 q1652 qs46 q113 q1653) (hd_X1_gains) (Nat.le_of_ble_eq_true rfl) (Nat.le_of_ble_eq_true rfl) (va_recv hK hP (ci := 1) (q0 := 0) rfl rfl) rfl hl.1 rfl (Nat.le_of_ble_eq_true rfl) dX1_game_102 hP hD hS (fun H locs hP hD hS => ?_)
            refine lv_icmp_gt (tgt := 165) hx hb dX1_game_105 (by decide) (fun c195 => ?_) (fun c195 => ?_)
            · have hf := bq_ip c195 hf
              obtain ⟨v196, ev196, hf⟩ := bq_lts hf
              refine lv_iinc (v := v196) (lv' := [(6, .int v196), (8, .int (0 : Int32)), (7, .int (1 : Int32)), (0, .ref (ba 0)), (1, .int x1), (2, .int x2), (3, .int x3), (4, .int x4), (5, .int x5)]) hx hb dX1_game_165 hl (k := 8) rfl (bq_inc (by decide) ev196) (by decide) rfl (fun ls hl => ?_)
              refine lv_goto (tgt := 43) hx hb dX1_game_168 (by decide) ?_
              exact ih _ _ _ _ _ _ _ _ _ _ _ _ _ hf hP hD hS ls (lv_sub hl [3, 4, 5, 6, 7, 8, 0] rfl) hk0
            · have hf := bq_in c195 hf
              refine lv_aload_n hx hb dX1_game_108 rfl (lv_at hl 2 rfl) ?_
              refine lv_iload_n hx hb dX1_game_109 rfl (lv_at hl 4 rfl) ?_
              refine lv_iload_n hx hb dX1_game_110 rfl (lv_at hl 3 rfl) ?_
              refine lv_iload hx hb dX1_game_111 (lv_at hl 0 rfl) ?_
              refine lv_if_ne (tgt := 120) hx hb dX1_game_113 (by decide) (fun c197 => ?_) (fun c197 => ?_)
              · have hf := bq_in c197 hf
                refine lv_iconst (v := (0 : Int32)) hx hb dX1_game_120 (by decide) ?_
                refine lv_iload hx hb dX1_game_121 (lv_at hl 1 rfl) ?_
                obtain ⟨v198, τ199, ν200, hg, hf⟩ := bq_b3s hf
                refine bq_cV (bs := [bbB d ba ca na ta ka ia β, stB d na σ, stB d ta τ193, viB d ca ν194, coB d ca dy fa κ, lsB d ca L mc E.1, giB ca E.1 κ, P]) (bc := [bbB d ba ca na ta ka ia β, stB d na σ, stB d ta τ193, viB d ca ν194, coB d ca dy fa κ, lsB d ca L mc E.1, giB ca E.1 κ, P]) (br := []) (bc' := [bbB d ba ca na ta ka ia β, stB d na σ, stB d ta τ199, viB d ca ν200, coB d ca dy fa κ, lsB d ca L mc E.1, giB ca E.1 κ, P]) (bs' := [bbB d ba ca na ta ka ia β, stB d na σ, stB d ta τ199, viB d ca ν200, coB d ca dy fa κ, lsB d ca L mc E.1, giB ca E.1 κ, P]) (As := [.int x2, .int x1, .int (0 : Int32), .int (1 : Int32)]) (rest := []) (o := (some (.int v198))) C hkc hks (met_bl_gains hok hamb hE hby hL hg) (bq_pm [0, 1, 2, 3, 4, 5, 6, 7] rfl rfl rfl) (bq_pm [0, 1, 2, 3, 4, 5, 6, 7] rfl rfl rfl) (lw_V q1650 q1652 qs46 q113 q1653) (hd_X1_gains) (Nat.le_of_ble_eq_true rfl) (Nat.le_of_ble_eq_true rfl) (va_recv hK hP (ci := 1) (q0 := 0) rfl rfl) rfl hl.1 rfl (Nat.le_of_ble_eq_true rfl) dX1_game_123 hP hD hS (fun H locs hP hD hS => ?_)
                refine lv_aload_n hx hb dX1_game_126 rfl (lv_at hl 2 rfl) ?_
                refine lv_iload_n hx hb dX1_game_127 rfl (lv_at hl 4 rfl) ?_
                refine lv_iload_n hx hb dX1_game_128 rfl (lv_at hl 3 rfl) ?_
                refine lv_iload hx hb dX1_game_129 (lv_at hl 0 rfl) ?_
                refine lv_iload hx hb dX1_game_131 (lv_at hl 1 rfl) ?_
                obtain ⟨v201, τ202, ν203, hg, hf⟩ := bq_b3s hf
                refine bq_cV (bs := [bbB d ba ca na ta ka ia β, stB d na σ, stB d ta τ199, viB d ca ν200, coB d ca dy fa κ, lsB d ca L mc E.1, giB ca E.1 κ, P]) (bc := [bbB d ba ca na ta ka ia β, stB d na σ, stB d ta τ199, viB d ca ν200, coB d ca dy fa κ, lsB d ca L mc E.1, giB ca E.1 κ, P]) (br := []) (bc' := [bbB d ba ca na ta ka ia β, stB d na σ, stB d ta τ202, viB d ca ν203, coB d ca dy fa κ, lsB d ca L mc E.1, giB ca E.1 κ, P]) (bs' := [bbB d ba ca na ta ka ia β, stB d na σ, stB d ta τ202, viB d ca ν203, coB d ca dy fa κ, lsB d ca L mc E.1, giB ca E.1 κ, P]) (As := [.int x2, .int x1, .int (0 : Int32), .int (1 : Int32)]) (rest := [.int v198]) (o := (some (.int v201))) C hkc hks (met_bl_gains hok hamb hE hby hL hg) (bq_pm [0, 1, 2, 3, 4, 5, 6, 7] rfl rfl rfl) (bq_pm [0, 1, 2, 3, 4, 5, 6, 7] rfl rfl rfl) (lw_V q1650 q1652 qs46 q113 q1653) (hd_X1_gains) (Nat.le_of_ble_eq_true rfl) (Nat.le_of_ble_eq_true rfl) (va_recv hK hP (ci := 1) (q0 := 0) rfl rfl) rfl hl.1 rfl (Nat.le_of_ble_eq_true rfl) dX1_game_133 hP hD hS (fun H locs hP hD hS => ?_)
                refine lv_icmp_le (tgt := 142) hx hb dX1_game_136 (by decide) (fun c204 => ?_) (fun c204 => ?_)
                · have hf := bq_ip c204 hf
                  obtain ⟨v205, ev205, hf⟩ := bq_lts hf
                  refine lv_iinc (v := v205) (lv' := [(4, .int v205), (8, .int (0 : Int32)), (7, .int (1 : Int32)), (0, .ref (ba 0)), (1, .int x1), (2, .int x2), (3, .int x3), (5, .int x5), (6, .int x6)]) hx hb dX1_game_142 hl (k := 6) rfl (bq_inc (by decide) ev205) (by decide) rfl (fun ls hl => ?_)
                  refine lv_iload hx hb dX1_game_145 (lv_at hl 7 rfl) ?_
                  refine lv_iconst (v := (-1 : Int32)) hx hb dX1_game_147 (by decide) ?_
                  refine lv_icmp_ne (tgt := 165) hx hb dX1_game_148 (by decide) (fun c206 => ?_) (fun c206 => ?_)
                  · have hf := bq_in c206 hf
                    obtain ⟨v207, ev207, hf⟩ := bq_lts hf
                    refine lv_iinc (v := v207) (lv' := [(6, .int v207), (4, .int v205), (8, .int (0 : Int32)), (7, .int (1 : Int32)), (0, .ref (ba 0)), (1, .int x1), (2, .int x2), (3, .int x3), (5, .int x5)]) hx hb dX1_game_165 hl (k := 8) rfl (bq_inc (by decide) ev207) (by decide) rfl (fun ls hl => ?_)
                    refine lv_goto (tgt := 43) hx hb dX1_game_168 (by decide) ?_
                    exact ih _ _ _ _ _ _ _ _ _ _ _ _ _ hf hP hD hS ls (lv_sub hl [4, 5, 6, 7, 1, 8, 0] rfl) hk0
                  · have hf := bq_ip c206 hf
                    refine lv_iload hx hb dX1_game_151 (lv_at hl 8 rfl) ?_
                    refine lv_iconst (v := (2 : Int32)) hx hb dX1_game_153 (by decide) ?_
                    refine lv_idiv hx hb dX1_game_154 (by decide) ?_
                    refine lv_bipush (v := (10 : Int32)) hx hb dX1_game_155 (by decide) ?_
                    refine lv_imul hx hb dX1_game_157 ?_
                    refine lv_iload hx hb dX1_game_158 (lv_at hl 8 rfl) ?_
                    refine lv_iconst (v := (2 : Int32)) hx hb dX1_game_160 (by decide) ?_
                    refine lv_irem hx hb dX1_game_161 (by decide) ?_
                    refine lv_iadd hx hb dX1_game_162 ?_
                    obtain ⟨v208, ev208, hf⟩ := bq_lts hf
                    refine bq_tope ev208 ?_
                    refine lv_istore (lv' := [(5, .int v208), (4, .int v205), (8, .int (0 : Int32)), (7, .int (1 : Int32)), (0, .ref (ba 0)), (1, .int x1), (2, .int x2), (3, .int x3), (6, .int x6)]) hx hb dX1_game_163 hl (by decide) rfl (fun ls hl => ?_)
                    obtain ⟨v209, ev209, hf⟩ := bq_lts hf
                    refine lv_iinc (v := v209) (lv' := [(6, .int v209), (5, .int v208), (4, .int v205), (8, .int (0 : Int32)), (7, .int (1 : Int32)), (0, .ref (ba 0)), (1, .int x1), (2, .int x2), (3, .int x3)]) hx hb dX1_game_165 hl (k := 8) rfl (bq_inc (by decide) ev209) (by decide) rfl (fun ls hl => ?_)
                    refine lv_goto (tgt := 43) hx hb dX1_game_168 (by decide) ?_
                    exact ih _ _ _ _ _ _ _ _ _ _ _ _ _ hf hP hD hS ls (lv_sub hl [5, 6, 7, 8, 2, 1, 0] rfl) hk0
                · have hf := bq_in c204 hf
                  refine lv_goto (tgt := 165) hx hb dX1_game_139 (by decide) ?_
                  obtain ⟨v210, ev210, hf⟩ := bq_lts hf
                  refine lv_iinc (v := v210) (lv' := [(6, .int v210), (8, .int (0 : Int32)), (7, .int (1 : Int32)), (0, .ref (ba 0)), (1, .int x1), (2, .int x2), (3, .int x3), (4, .int x4), (5, .int x5)]) hx hb dX1_game_165 hl (k := 8) rfl (bq_inc (by decide) ev210) (by decide) rfl (fun ls hl => ?_)
                  refine lv_goto (tgt := 43) hx hb dX1_game_168 (by decide) ?_
                  exact ih _ _ _ _ _ _ _ _ _ _ _ _ _ hf hP hD hS ls (lv_sub hl [3, 4, 5, 6, 7, 8, 0] rfl) hk0
              · have hf := bq_ip c197 hf
                refine lv_iconst (v := (1 : Int32)) hx hb dX1_game_116 (by decide) ?_
                refine lv_goto (tgt := 121) hx hb dX1_game_117 (by decide) ?_
                refine lv_iload hx hb dX1_game_121 (lv_at hl 1 rfl) ?_
                obtain ⟨v211, τ212, ν213, hg, hf⟩ := bq_b3s hf
                refine bq_cV (bs := [bbB d ba ca na ta ka ia β, stB d na σ, stB d ta τ193, viB d ca ν194, coB d ca dy fa κ, lsB d ca L mc E.1, giB ca E.1 κ, P]) (bc := [bbB d ba ca na ta ka ia β, stB d na σ, stB d ta τ193, viB d ca ν194, coB d ca dy fa κ, lsB d ca L mc E.1, giB ca E.1 κ, P]) (br := []) (bc' := [bbB d ba ca na ta ka ia β, stB d na σ, stB d ta τ212, viB d ca ν213, coB d ca dy fa κ, lsB d ca L mc E.1, giB ca E.1 κ, P]) (bs' := [bbB d ba ca na ta ka ia β, stB d na σ, stB d ta τ212, viB d ca ν213, coB d ca dy fa κ, lsB d ca L mc E.1, giB ca E.1 κ, P]) (As := [.int x2, .int x1, .int (1 : Int32), .int (1 : Int32)]) (rest := []) (o := (some (.int v211))) C hkc hks (met_bl_gains hok hamb hE hby hL hg) (bq_pm [0, 1, 2, 3, 4, 5, 6, 7] rfl rfl rfl) (bq_pm [0, 1, 2, 3, 4, 5, 6, 7] rfl rfl rfl) (lw_V q1650 q1652 qs46 q113 q1653) (hd_X1_gains) (Nat.le_of_ble_eq_true rfl) (Nat.le_of_ble_eq_true rfl) (va_recv hK hP (ci := 1) (q0 := 0) rfl rfl) rfl hl.1 rfl (Nat.le_of_ble_eq_true rfl) dX1_game_123 hP hD hS (fun H locs hP hD hS => ?_)
                refine lv_aload_n hx hb dX1_game_126 rfl (lv_at hl 2 rfl) ?_
                refine lv_iload_n hx hb dX1_game_127 rfl (lv_at hl 4 rfl) ?_
                refine lv_iload_n hx hb dX1_game_128 rfl (lv_at hl 3 rfl) ?_
                refine lv_iload hx hb dX1_game_129 (lv_at hl 0 rfl) ?_
                refine lv_iload hx hb dX1_game_131 (lv_at hl 1 rfl) ?_
                obtain ⟨v214, τ215, ν216, hg, hf⟩ := bq_b3s hf
                refine bq_cV (bs := [bbB d ba ca na ta ka ia β, stB d na σ, stB d ta τ212, viB d ca ν213, coB d ca dy fa κ, lsB d ca L mc E.1, giB ca E.1 κ, P]) (bc := [bbB d ba ca na ta ka ia β, stB d na σ, stB d ta τ212, viB d ca ν213, coB d ca dy fa κ, lsB d ca L mc E.1, giB ca E.1 κ, P]) (br := []) (bc' := [bbB d ba ca na ta ka ia β, stB d na σ, stB d ta τ215, viB d ca ν216, coB d ca dy fa κ, lsB d ca L mc E.1, giB ca E.1 κ, P]) (bs' := [bbB d ba ca na ta ka ia β, stB d na σ, stB d ta τ215, viB d ca ν216, coB d ca dy fa κ, lsB d ca L mc E.1, giB ca E.1 κ, P]) (As := [.int x2, .int x1, .int (0 : Int32), .int (1 : Int32)]) (rest := [.int v211]) (o := (some (.int v214))) C hkc hks (met_bl_gains hok hamb hE hby hL hg) (bq_pm [0, 1, 2, 3, 4, 5, 6, 7] rfl rfl rfl) (bq_pm [0, 1, 2, 3, 4, 5, 6, 7] rfl rfl rfl) (lw_V q1650 q1652 qs46 q113 q1653) (hd_X1_gains) (Nat.le_of_ble_eq_true rfl) (Nat.le_of_ble_eq_true rfl) (va_recv hK hP (ci := 1) (q0 := 0) rfl rfl) rfl hl.1 rfl (Nat.le_of_ble_eq_true rfl) dX1_game_133 hP hD hS (fun H locs hP hD hS => ?_)
                refine lv_icmp_le (tgt := 142) hx hb dX1_game_136 (by decide) (fun c217 => ?_) (fun c217 => ?_)
                · have hf := bq_ip c217 hf
                  obtain ⟨v218, ev218, hf⟩ := bq_lts hf
                  refine lv_iinc (v := v218) (lv' := [(4, .int v218), (8, .int (0 : Int32)), (7, .int (1 : Int32)), (0, .ref (ba 0)), (1, .int x1), (2, .int x2), (3, .int x3), (5, .int x5), (6, .int x6)]) hx hb dX1_game_142 hl (k := 6) rfl (bq_inc (by decide) ev218) (by decide) rfl (fun ls hl => ?_)
                  refine lv_iload hx hb dX1_game_145 (lv_at hl 7 rfl) ?_
                  refine lv_iconst (v := (-1 : Int32)) hx hb dX1_game_147 (by decide) ?_
                  refine lv_icmp_ne (tgt := 165) hx hb dX1_game_148 (by decide) (fun c219 => ?_) (fun c219 => ?_)
                  · have hf := bq_in c219 hf
                    obtain ⟨v220, ev220, hf⟩ := bq_lts hf
                    refine lv_iinc (v := v220) (lv' := [(6, .int v220), (4, .int v218), (8, .int (0 : Int32)), (7, .int (1 : Int32)), (0, .ref (ba 0)), (1, .int x1), (2, .int x2), (3, .int x3), (5, .int x5)]) hx hb dX1_game_165 hl (k := 8) rfl (bq_inc (by decide) ev220) (by decide) rfl (fun ls hl => ?_)
                    refine lv_goto (tgt := 43) hx hb dX1_game_168 (by decide) ?_
                    exact ih _ _ _ _ _ _ _ _ _ _ _ _ _ hf hP hD hS ls (lv_sub hl [4, 5, 6, 7, 1, 8, 0] rfl) hk0
                  · have hf := bq_ip c219 hf
                    refine lv_iload hx hb dX1_game_151 (lv_at hl 8 rfl) ?_
                    refine lv_iconst (v := (2 : Int32)) hx hb dX1_game_153 (by decide) ?_
                    refine lv_idiv hx hb dX1_game_154 (by decide) ?_
                    refine lv_bipush (v := (10 : Int32)) hx hb dX1_game_155 (by decide) ?_
                    refine lv_imul hx hb dX1_game_157 ?_
                    refine lv_iload hx hb dX1_game_158 (lv_at hl 8 rfl) ?_
                    refine lv_iconst (v := (2 : Int32)) hx hb dX1_game_160 (by decide) ?_
                    refine lv_irem hx hb dX1_game_161 (by decide) ?_
                    refine lv_iadd hx hb dX1_game_162 ?_
                    obtain ⟨v221, ev221, hf⟩ := bq_lts hf
                    refine bq_tope ev221 ?_
                    refine lv_istore (lv' := [(5, .int v221), (4, .int v218), (8, .int (0 : Int32)), (7, .int (1 : Int32)), (0, .ref (ba 0)), (1, .int x1), (2, .int x2), (3, .int x3), (6, .int x6)]) hx hb dX1_game_163 hl (by decide) rfl (fun ls hl => ?_)
                    obtain ⟨v222, ev222, hf⟩ := bq_lts hf
                    refine lv_iinc (v := v222) (lv' := [(6, .int v222), (5, .int v221), (4, .int v218), (8, .int (0 : Int32)), (7, .int (1 : Int32)), (0, .ref (ba 0)), (1, .int x1), (2, .int x2), (3, .int x3)]) hx hb dX1_game_165 hl (k := 8) rfl (bq_inc (by decide) ev222) (by decide) rfl (fun ls hl => ?_)
                    refine lv_goto (tgt := 43) hx hb dX1_game_168 (by decide) ?_
                    exact ih _ _ _ _ _ _ _ _ _ _ _ _ _ hf hP hD hS ls (lv_sub hl [5, 6, 7, 8, 2, 1, 0] rfl) hk0
                · have hf := bq_in c217 hf
                  refine lv_goto (tgt := 165) hx hb dX1_game_139 (by decide) ?_
                  obtain ⟨v223, ev223, hf⟩ := bq_lts hf
                  refine lv_iinc (v := v223) (lv' := [(6, .int v223), (8, .int (0 : Int32)), (7, .int (1 : Int32)), (0, .ref (ba 0)), (1, .int x1), (2, .int x2), (3, .int x3), (4, .int x4), (5, .int x5)]) hx hb dX1_game_165 hl (k := 8) rfl (bq_inc (by decide) ev223) (by decide) rfl (fun ls hl => ?_)
                  refine lv_goto (tgt := 43) hx hb dX1_game_168 (by decide) ?_
                  exact ih _ _ _ _ _ _ _ _ _ _ _ _ _ hf hP hD hS ls (lv_sub hl [3, 4, 5, 6, 7, 8, 0] rfl) hk0
        · have hf := bq_ip c152 hf
          refine lv_iconst (v := (1 : Int32)) hx hb dX1_game_70 (by decide) ?_
          refine lv_goto (tgt := 75) hx hb dX1_game_71 (by decide) ?_
          refine lv_istore (lv' := [(8, .int (1 : Int32)), (7, .int (1 : Int32)), (0, .ref (ba 0)), (1, .int x1), (2, .int x2), (3, .int x3), (4, .int x4), (5, .int x5), (6, .int x6)]) hx hb dX1_game_75 hl (by decide) rfl (fun ls hl => ?_)
          refine lv_aload_n hx hb dX1_game_77 rfl (lv_at hl 2 rfl) ?_
          refine lv_iload_n hx hb dX1_game_78 rfl (lv_at hl 3 rfl) ?_
          refine lv_iload_n hx hb dX1_game_79 rfl (lv_at hl 4 rfl) ?_
          refine lv_iload hx hb dX1_game_80 (lv_at hl 1 rfl) ?_
          refine lv_if_ne (tgt := 89) hx hb dX1_game_82 (by decide) (fun c224 => ?_) (fun c224 => ?_)
          · have hf := bq_in c224 hf
            refine lv_iconst (v := (0 : Int32)) hx hb dX1_game_89 (by decide) ?_
            refine lv_iload hx hb dX1_game_90 (lv_at hl 0 rfl) ?_
            obtain ⟨v225, τ226, ν227, hg, hf⟩ := bq_b3s hf
            refine bq_cV (bs := [bbB d ba ca na ta ka ia β, stB d na σ, stB d ta τ, viB d ca ν, coB d ca dy fa κ, lsB d ca L mc E.1, giB ca E.1 κ, P]) (bc := [bbB d ba ca na ta ka ia β, stB d na σ, stB d ta τ, viB d ca ν, coB d ca dy fa κ, lsB d ca L mc E.1, giB ca E.1 κ, P]) (br := []) (bc' := [bbB d ba ca na ta ka ia β, stB d na σ, stB d ta τ226, viB d ca ν227, coB d ca dy fa κ, lsB d ca L mc E.1, giB ca E.1 κ, P]) (bs' := [bbB d ba ca na ta ka ia β, stB d na σ, stB d ta τ226, viB d ca ν227, coB d ca dy fa κ, lsB d ca L mc E.1, giB ca E.1 κ, P]) (As := [.int x1, .int x2, .int (0 : Int32), .int (1 : Int32)]) (rest := []) (o := (some (.int v225))) C hkc hks (met_bl_gains hok hamb hE hby hL hg) (bq_pm [0, 1, 2, 3, 4, 5, 6, 7] rfl rfl rfl) (bq_pm [0, 1, 2, 3, 4, 5, 6, 7] rfl rfl rfl) (lw_V q1650 q1652 qs46 q113 q1653) (hd_X1_gains) (Nat.le_of_ble_eq_true rfl) (Nat.le_of_ble_eq_true rfl) (va_recv hK hP (ci := 1) (q0 := 0) rfl rfl) rfl hl.1 rfl (Nat.le_of_ble_eq_true rfl) dX1_game_92 hP hD hS (fun H locs hP hD hS => ?_)
            refine lv_aload_n hx hb dX1_game_95 rfl (lv_at hl 2 rfl) ?_
            refine lv_iload_n hx hb dX1_game_96 rfl (lv_at hl 3 rfl) ?_
            refine lv_iload_n hx hb dX1_game_97 rfl (lv_at hl 4 rfl) ?_
            refine lv_iload hx hb dX1_game_98 (lv_at hl 1 rfl) ?_
            refine lv_iload hx hb dX1_game_100 (lv_at hl 0 rfl) ?_
            obtain ⟨v228, τ229, ν230, hg, hf⟩ := bq_b3s hf
            refine bq_cV (bs := [bbB d ba ca na ta ka ia β, stB d na σ, stB d ta τ226, viB d ca ν227, coB d ca dy fa κ, lsB d ca L mc E.1, giB ca E.1 κ, P]) (bc := [bbB d ba ca na ta ka ia β, stB d na σ, stB d ta τ226, viB d ca ν227, coB d ca dy fa κ, lsB d ca L mc E.1, giB ca E.1 κ, P]) (br := []) (bc' := [bbB d ba ca na ta ka ia β, stB d na σ, stB d ta τ229, viB d ca ν230, coB d ca dy fa κ, lsB d ca L mc E.1, giB ca E.1 κ, P]) (bs' := [bbB d ba ca na ta ka ia β, stB d na σ, stB d ta τ229, viB d ca ν230, coB d ca dy fa κ, lsB d ca L mc E.1, giB ca E.1 κ, P]) (As := [.int x1, .int x2, .int (1 : Int32), .int (1 : Int32)]) (rest := [.int v225]) (o := (some (.int v228))) C hkc hks (met_bl_gains hok hamb hE hby hL hg) (bq_pm [0, 1, 2, 3, 4, 5, 6, 7] rfl rfl rfl) (bq_pm [0, 1, 2, 3, 4, 5, 6, 7] rfl rfl rfl) (lw_V q1650 q1652 qs46 q113 q1653) (hd_X1_gains) (Nat.le_of_ble_eq_true rfl) (Nat.le_of_ble_eq_true rfl) (va_recv hK hP (ci := 1) (q0 := 0) rfl rfl) rfl hl.1 rfl (Nat.le_of_ble_eq_true rfl) dX1_game_102 hP hD hS (fun H locs hP hD hS => ?_)
            refine lv_icmp_gt (tgt := 165) hx hb dX1_game_105 (by decide) (fun c231 => ?_) (fun c231 => ?_)
            · have hf := bq_ip c231 hf
              obtain ⟨v232, ev232, hf⟩ := bq_lts hf
              refine lv_iinc (v := v232) (lv' := [(6, .int v232), (8, .int (1 : Int32)), (7, .int (1 : Int32)), (0, .ref (ba 0)), (1, .int x1), (2, .int x2), (3, .int x3), (4, .int x4), (5, .int x5)]) hx hb dX1_game_165 hl (k := 8) rfl (bq_inc (by decide) ev232) (by decide) rfl (fun ls hl => ?_)
              refine lv_goto (tgt := 43) hx hb dX1_game_168 (by decide) ?_
              exact ih _ _ _ _ _ _ _ _ _ _ _ _ _ hf hP hD hS ls (lv_sub hl [3, 4, 5, 6, 7, 8, 0] rfl) hk0
            · have hf := bq_in c231 hf
              refine lv_aload_n hx hb dX1_game_108 rfl (lv_at hl 2 rfl) ?_
              refine lv_iload_n hx hb dX1_game_109 rfl (lv_at hl 4 rfl) ?_
              refine lv_iload_n hx hb dX1_game_110 rfl (lv_at hl 3 rfl) ?_
              refine lv_iload hx hb dX1_game_111 (lv_at hl 0 rfl) ?_
              refine lv_if_ne (tgt := 120) hx hb dX1_game_113 (by decide) (fun c233 => ?_) (fun c233 => ?_)
              · have hf := bq_in c233 hf
                refine lv_iconst (v := (0 : Int32)) hx hb dX1_game_120 (by decide) ?_
                refine lv_iload hx hb dX1_game_121 (lv_at hl 1 rfl) ?_
                obtain ⟨v234, τ235, ν236, hg, hf⟩ := bq_b3s hf
                refine bq_cV (bs := [bbB d ba ca na ta ka ia β, stB d na σ, stB d ta τ229, viB d ca ν230, coB d ca dy fa κ, lsB d ca L mc E.1, giB ca E.1 κ, P]) (bc := [bbB d ba ca na ta ka ia β, stB d na σ, stB d ta τ229, viB d ca ν230, coB d ca dy fa κ, lsB d ca L mc E.1, giB ca E.1 κ, P]) (br := []) (bc' := [bbB d ba ca na ta ka ia β, stB d na σ, stB d ta τ235, viB d ca ν236, coB d ca dy fa κ, lsB d ca L mc E.1, giB ca E.1 κ, P]) (bs' := [bbB d ba ca na ta ka ia β, stB d na σ, stB d ta τ235, viB d ca ν236, coB d ca dy fa κ, lsB d ca L mc E.1, giB ca E.1 κ, P]) (As := [.int x2, .int x1, .int (0 : Int32), .int (1 : Int32)]) (rest := []) (o := (some (.int v234))) C hkc hks (met_bl_gains hok hamb hE hby hL hg) (bq_pm [0, 1, 2, 3, 4, 5, 6, 7] rfl rfl rfl) (bq_pm [0, 1, 2, 3, 4, 5, 6, 7] rfl rfl rfl) (lw_V q1650 q1652 qs46 q113 q1653) (hd_X1_gains) (Nat.le_of_ble_eq_true rfl) (Nat.le_of_ble_eq_true rfl) (va_recv hK hP (ci := 1) (q0 := 0) rfl rfl) rfl hl.1 rfl (Nat.le_of_ble_eq_true rfl) dX1_game_123 hP hD hS (fun H locs hP hD hS => ?_)
                refine lv_aload_n hx hb dX1_game_126 rfl (lv_at hl 2 rfl) ?_
                refine lv_iload_n hx hb dX1_game_127 rfl (lv_at hl 4 rfl) ?_
                refine lv_iload_n hx hb dX1_game_128 rfl (lv_at hl 3 rfl) ?_
                refine lv_iload hx hb dX1_game_129 (lv_at hl 0 rfl) ?_
                refine lv_iload hx hb dX1_game_131 (lv_at hl 1 rfl) ?_
                obtain ⟨v237, τ238, ν239, hg, hf⟩ := bq_b3s hf
                refine bq_cV (bs := [bbB d ba ca na ta ka ia β, stB d na σ, stB d ta τ235, viB d ca ν236, coB d ca dy fa κ, lsB d ca L mc E.1, giB ca E.1 κ, P]) (bc := [bbB d ba ca na ta ka ia β, stB d na σ, stB d ta τ235, viB d ca ν236, coB d ca dy fa κ, lsB d ca L mc E.1, giB ca E.1 κ, P]) (br := []) (bc' := [bbB d ba ca na ta ka ia β, stB d na σ, stB d ta τ238, viB d ca ν239, coB d ca dy fa κ, lsB d ca L mc E.1, giB ca E.1 κ, P]) (bs' := [bbB d ba ca na ta ka ia β, stB d na σ, stB d ta τ238, viB d ca ν239, coB d ca dy fa κ, lsB d ca L mc E.1, giB ca E.1 κ, P]) (As := [.int x2, .int x1, .int (1 : Int32), .int (1 : Int32)]) (rest := [.int v234]) (o := (some (.int v237))) C hkc hks (met_bl_gains hok hamb hE hby hL hg) (bq_pm [0, 1, 2, 3, 4, 5, 6, 7] rfl rfl rfl) (bq_pm [0, 1, 2, 3, 4, 5, 6, 7] rfl rfl rfl) (lw_V q1650 q1652 qs46 q113 q1653) (hd_X1_gains) (Nat.le_of_ble_eq_true rfl) (Nat.le_of_ble_eq_true rfl) (va_recv hK hP (ci := 1) (q0 := 0) rfl rfl) rfl hl.1 rfl (Nat.le_of_ble_eq_true rfl) dX1_game_133 hP hD hS (fun H locs hP hD hS => ?_)
                refine lv_icmp_le (tgt := 142) hx hb dX1_game_136 (by decide) (fun c240 => ?_) (fun c240 => ?_)
                · have hf := bq_ip c240 hf
                  obtain ⟨v241, ev241, hf⟩ := bq_lts hf
                  refine lv_iinc (v := v241) (lv' := [(4, .int v241), (8, .int (1 : Int32)), (7, .int (1 : Int32)), (0, .ref (ba 0)), (1, .int x1), (2, .int x2), (3, .int x3), (5, .int x5), (6, .int x6)]) hx hb dX1_game_142 hl (k := 6) rfl (bq_inc (by decide) ev241) (by decide) rfl (fun ls hl => ?_)
                  refine lv_iload hx hb dX1_game_145 (lv_at hl 7 rfl) ?_
                  refine lv_iconst (v := (-1 : Int32)) hx hb dX1_game_147 (by decide) ?_
                  refine lv_icmp_ne (tgt := 165) hx hb dX1_game_148 (by decide) (fun c242 => ?_) (fun c242 => ?_)
                  · have hf := bq_in c242 hf
                    obtain ⟨v243, ev243, hf⟩ := bq_lts hf
                    refine lv_iinc (v := v243) (lv' := [(6, .int v243), (4, .int v241), (8, .int (1 : Int32)), (7, .int (1 : Int32)), (0, .ref (ba 0)), (1, .int x1), (2, .int x2), (3, .int x3), (5, .int x5)]) hx hb dX1_game_165 hl (k := 8) rfl (bq_inc (by decide) ev243) (by decide) rfl (fun ls hl => ?_)
                    refine lv_goto (tgt := 43) hx hb dX1_game_168 (by decide) ?_
                    exact ih _ _ _ _ _ _ _ _ _ _ _ _ _ hf hP hD hS ls (lv_sub hl [4, 5, 6, 7, 1, 8, 0] rfl) hk0
                  · have hf := bq_ip c242 hf
                    refine lv_iload hx hb dX1_game_151 (lv_at hl 8 rfl) ?_
                    refine lv_iconst (v := (2 : Int32)) hx hb dX1_game_153 (by decide) ?_
                    refine lv_idiv hx hb dX1_game_154 (by decide) ?_
                    refine lv_bipush (v := (10 : Int32)) hx hb dX1_game_155 (by decide) ?_
                    refine lv_imul hx hb dX1_game_157 ?_
                    refine lv_iload hx hb dX1_game_158 (lv_at hl 8 rfl) ?_
                    refine lv_iconst (v := (2 : Int32)) hx hb dX1_game_160 (by decide) ?_
                    refine lv_irem hx hb dX1_game_161 (by decide) ?_
                    refine lv_iadd hx hb dX1_game_162 ?_
                    obtain ⟨v244, ev244, hf⟩ := bq_lts hf
                    refine bq_tope ev244 ?_
                    refine lv_istore (lv' := [(5, .int v244), (4, .int v241), (8, .int (1 : Int32)), (7, .int (1 : Int32)), (0, .ref (ba 0)), (1, .int x1), (2, .int x2), (3, .int x3), (6, .int x6)]) hx hb dX1_game_163 hl (by decide) rfl (fun ls hl => ?_)
                    obtain ⟨v245, ev245, hf⟩ := bq_lts hf
                    refine lv_iinc (v := v245) (lv' := [(6, .int v245), (5, .int v244), (4, .int v241), (8, .int (1 : Int32)), (7, .int (1 : Int32)), (0, .ref (ba 0)), (1, .int x1), (2, .int x2), (3, .int x3)]) hx hb dX1_game_165 hl (k := 8) rfl (bq_inc (by decide) ev245) (by decide) rfl (fun ls hl => ?_)
                    refine lv_goto (tgt := 43) hx hb dX1_game_168 (by decide) ?_
                    exact ih _ _ _ _ _ _ _ _ _ _ _ _ _ hf hP hD hS ls (lv_sub hl [5, 6, 7, 8, 2, 1, 0] rfl) hk0
                · have hf := bq_in c240 hf
                  refine lv_goto (tgt := 165) hx hb dX1_game_139 (by decide) ?_
                  obtain ⟨v246, ev246, hf⟩ := bq_lts hf
                  refine lv_iinc (v := v246) (lv' := [(6, .int v246), (8, .int (1 : Int32)), (7, .int (1 : Int32)), (0, .ref (ba 0)), (1, .int x1), (2, .int x2), (3, .int x3), (4, .int x4), (5, .int x5)]) hx hb dX1_game_165 hl (k := 8) rfl (bq_inc (by decide) ev246) (by decide) rfl (fun ls hl => ?_)
                  refine lv_goto (tgt := 43) hx hb dX1_game_168 (by decide) ?_
                  exact ih _ _ _ _ _ _ _ _ _ _ _ _ _ hf hP hD hS ls (lv_sub hl [3, 4, 5, 6, 7, 8, 0] rfl) hk0
              · have hf := bq_ip c233 hf
                refine lv_iconst (v := (1 : Int32)) hx hb dX1_game_116 (by decide) ?_
                refine lv_goto (tgt := 121) hx hb dX1_game_117 (by decide) ?_
                refine lv_iload hx hb dX1_game_121 (lv_at hl 1 rfl) ?_
                obtain ⟨v247, τ248, ν249, hg, hf⟩ := bq_b3s hf
                refine bq_cV (bs := [bbB d ba ca na ta ka ia β, stB d na σ, stB d ta τ229, viB d ca ν230, coB d ca dy fa κ, lsB d ca L mc E.1, giB ca E.1 κ, P]) (bc := [bbB d ba ca na ta ka ia β, stB d na σ, stB d ta τ229, viB d ca ν230, coB d ca dy fa κ, lsB d ca L mc E.1, giB ca E.1 κ, P]) (br := []) (bc' := [bbB d ba ca na ta ka ia β, stB d na σ, stB d ta τ248, viB d ca ν249, coB d ca dy fa κ, lsB d ca L mc E.1, giB ca E.1 κ, P]) (bs' := [bbB d ba ca na ta ka ia β, stB d na σ, stB d ta τ248, viB d ca ν249, coB d ca dy fa κ, lsB d ca L mc E.1, giB ca E.1 κ, P]) (As := [.int x2, .int x1, .int (1 : Int32), .int (1 : Int32)]) (rest := []) (o := (some (.int v247))) C hkc hks (met_bl_gains hok hamb hE hby hL hg) (bq_pm [0, 1, 2, 3, 4, 5, 6, 7] rfl rfl rfl) (bq_pm [0, 1, 2, 3, 4, 5, 6, 7] rfl rfl rfl) (lw_V q1650 q1652 qs46 q113 q1653) (hd_X1_gains) (Nat.le_of_ble_eq_true rfl) (Nat.le_of_ble_eq_true rfl) (va_recv hK hP (ci := 1) (q0 := 0) rfl rfl) rfl hl.1 rfl (Nat.le_of_ble_eq_true rfl) dX1_game_123 hP hD hS (fun H locs hP hD hS => ?_)
                refine lv_aload_n hx hb dX1_game_126 rfl (lv_at hl 2 rfl) ?_
                refine lv_iload_n hx hb dX1_game_127 rfl (lv_at hl 4 rfl) ?_
                refine lv_iload_n hx hb dX1_game_128 rfl (lv_at hl 3 rfl) ?_
                refine lv_iload hx hb dX1_game_129 (lv_at hl 0 rfl) ?_
                refine lv_iload hx hb dX1_game_131 (lv_at hl 1 rfl) ?_
                obtain ⟨v250, τ251, ν252, hg, hf⟩ := bq_b3s hf
                refine bq_cV (bs := [bbB d ba ca na ta ka ia β, stB d na σ, stB d ta τ248, viB d ca ν249, coB d ca dy fa κ, lsB d ca L mc E.1, giB ca E.1 κ, P]) (bc := [bbB d ba ca na ta ka ia β, stB d na σ, stB d ta τ248, viB d ca ν249, coB d ca dy fa κ, lsB d ca L mc E.1, giB ca E.1 κ, P]) (br := []) (bc' := [bbB d ba ca na ta ka ia β, stB d na σ, stB d ta τ251, viB d ca ν252, coB d ca dy fa κ, lsB d ca L mc E.1, giB ca E.1 κ, P]) (bs' := [bbB d ba ca na ta ka ia β, stB d na σ, stB d ta τ251, viB d ca ν252, coB d ca dy fa κ, lsB d ca L mc E.1, giB ca E.1 κ, P]) (As := [.int x2, .int x1, .int (1 : Int32), .int (1 : Int32)]) (rest := [.int v247]) (o := (some (.int v250))) C hkc hks (met_bl_gains hok hamb hE hby hL hg) (bq_pm [0, 1, 2, 3, 4, 5, 6, 7] rfl rfl rfl) (bq_pm [0, 1, 2, 3, 4, 5, 6, 7] rfl rfl rfl) (lw_V q1650 q1652 qs46 q113 q1653) (hd_X1_gains) (Nat.le_of_ble_eq_true rfl) (Nat.le_of_ble_eq_true rfl) (va_recv hK hP (ci := 1) (q0 := 0) rfl rfl) rfl hl.1 rfl (Nat.le_of_ble_eq_true rfl) dX1_game_133 hP hD hS (fun H locs hP hD hS => ?_)
                refine lv_icmp_le (tgt := 142) hx hb dX1_game_136 (by decide) (fun c253 => ?_) (fun c253 => ?_)
                · have hf := bq_ip c253 hf
                  obtain ⟨v254, ev254, hf⟩ := bq_lts hf
                  refine lv_iinc (v := v254) (lv' := [(4, .int v254), (8, .int (1 : Int32)), (7, .int (1 : Int32)), (0, .ref (ba 0)), (1, .int x1), (2, .int x2), (3, .int x3), (5, .int x5), (6, .int x6)]) hx hb dX1_game_142 hl (k := 6) rfl (bq_inc (by decide) ev254) (by decide) rfl (fun ls hl => ?_)
                  refine lv_iload hx hb dX1_game_145 (lv_at hl 7 rfl) ?_
                  refine lv_iconst (v := (-1 : Int32)) hx hb dX1_game_147 (by decide) ?_
                  refine lv_icmp_ne (tgt := 165) hx hb dX1_game_148 (by decide) (fun c255 => ?_) (fun c255 => ?_)
                  · have hf := bq_in c255 hf
                    obtain ⟨v256, ev256, hf⟩ := bq_lts hf
                    refine lv_iinc (v := v256) (lv' := [(6, .int v256), (4, .int v254), (8, .int (1 : Int32)), (7, .int (1 : Int32)), (0, .ref (ba 0)), (1, .int x1), (2, .int x2), (3, .int x3), (5, .int x5)]) hx hb dX1_game_165 hl (k := 8) rfl (bq_inc (by decide) ev256) (by decide) rfl (fun ls hl => ?_)
                    refine lv_goto (tgt := 43) hx hb dX1_game_168 (by decide) ?_
                    exact ih _ _ _ _ _ _ _ _ _ _ _ _ _ hf hP hD hS ls (lv_sub hl [4, 5, 6, 7, 1, 8, 0] rfl) hk0
                  · have hf := bq_ip c255 hf
                    refine lv_iload hx hb dX1_game_151 (lv_at hl 8 rfl) ?_
                    refine lv_iconst (v := (2 : Int32)) hx hb dX1_game_153 (by decide) ?_
                    refine lv_idiv hx hb dX1_game_154 (by decide) ?_
                    refine lv_bipush (v := (10 : Int32)) hx hb dX1_game_155 (by decide) ?_
                    refine lv_imul hx hb dX1_game_157 ?_
                    refine lv_iload hx hb dX1_game_158 (lv_at hl 8 rfl) ?_
                    refine lv_iconst (v := (2 : Int32)) hx hb dX1_game_160 (by decide) ?_
                    refine lv_irem hx hb dX1_game_161 (by decide) ?_
                    refine lv_iadd hx hb dX1_game_162 ?_
                    obtain ⟨v257, ev257, hf⟩ := bq_lts hf
                    refine bq_tope ev257 ?_
                    refine lv_istore (lv' := [(5, .int v257), (4, .int v254), (8, .int (1 : Int32)), (7, .int (1 : Int32)), (0, .ref (ba 0)), (1, .int x1), (2, .int x2), (3, .int x3), (6, .int x6)]) hx hb dX1_game_163 hl (by decide) rfl (fun ls hl => ?_)
                    obtain ⟨v258, ev258, hf⟩ := bq_lts hf
                    refine lv_iinc (v := v258) (lv' := [(6, .int v258), (5, .int v257), (4, .int v254), (8, .int (1 : Int32)), (7, .int (1 : Int32)), (0, .ref (ba 0)), (1, .int x1), (2, .int x2), (3, .int x3)]) hx hb dX1_game_165 hl (k := 8) rfl (bq_inc (by decide) ev258) (by decide) rfl (fun ls hl => ?_)
                    refine lv_goto (tgt := 43) hx hb dX1_game_168 (by decide) ?_
                    exact ih _ _ _ _ _ _ _ _ _ _ _ _ _ hf hP hD hS ls (lv_sub hl [5, 6, 7, 8, 2, 1, 0] rfl) hk0
                · have hf := bq_in c253 hf
                  refine lv_goto (tgt := 165) hx hb dX1_game_139 (by decide) ?_
                  obtain ⟨v259, ev259, hf⟩ := bq_lts hf
                  refine lv_iinc (v := v259) (lv' := [(6, .int v259), (8, .int (1 : Int32)), (7, .int (1 : Int32)), (0, .ref (ba 0)), (1, .int x1), (2, .int x2), (3, .int x3), (4, .int x4), (5, .int x5)]) hx hb dX1_game_165 hl (k := 8) rfl (bq_inc (by decide) ev259) (by decide) rfl (fun ls hl => ?_)
                  refine lv_goto (tgt := 43) hx hb dX1_game_168 (by decide) ?_
                  exact ih _ _ _ _ _ _ _ _ _ _ _ _ _ hf hP hD hS ls (lv_sub hl [3, 4, 5, 6, 7, 8, 0] rfl) hk0
          · have hf := bq_ip c224 hf
            refine lv_iconst (v := (1 : Int32)) hx hb dX1_game_85 (by decide) ?_
            refine lv_goto (tgt := 90) hx hb dX1_game_86 (by decide) ?_
            refine lv_iload hx hb dX1_game_90 (lv_at hl 0 rfl) ?_
            obtain ⟨v260, τ261, ν262, hg, hf⟩ := bq_b3s hf
            refine bq_cV (bs := [bbB d ba ca na ta ka ia β, stB d na σ, stB d ta τ, viB d ca ν, coB d ca dy fa κ, lsB d ca L mc E.1, giB ca E.1 κ, P]) (bc := [bbB d ba ca na ta ka ia β, stB d na σ, stB d ta τ, viB d ca ν, coB d ca dy fa κ, lsB d ca L mc E.1, giB ca E.1 κ, P]) (br := []) (bc' := [bbB d ba ca na ta ka ia β, stB d na σ, stB d ta τ261, viB d ca ν262, coB d ca dy fa κ, lsB d ca L mc E.1, giB ca E.1 κ, P]) (bs' := [bbB d ba ca na ta ka ia β, stB d na σ, stB d ta τ261, viB d ca ν262, coB d ca dy fa κ, lsB d ca L mc E.1, giB ca E.1 κ, P]) (As := [.int x1, .int x2, .int (1 : Int32), .int (1 : Int32)]) (rest := []) (o := (some (.int v260))) C hkc hks (met_bl_gains hok hamb hE hby hL hg) (bq_pm [0, 1, 2, 3, 4, 5, 6, 7] rfl rfl rfl) (bq_pm [0, 1, 2, 3, 4, 5, 6, 7] rfl rfl rfl) (lw_V q1650 q1652 qs46 q113 q1653) (hd_X1_gains) (Nat.le_of_ble_eq_true rfl) (Nat.le_of_ble_eq_true rfl) (va_recv hK hP (ci := 1) (q0 := 0) rfl rfl) rfl hl.1 rfl (Nat.le_of_ble_eq_true rfl) dX1_game_92 hP hD hS (fun H locs hP hD hS => ?_)
            refine lv_aload_n hx hb dX1_game_95 rfl (lv_at hl 2 rfl) ?_
            refine lv_iload_n hx hb dX1_game_96 rfl (lv_at hl 3 rfl) ?_
            refine lv_iload_n hx hb dX1_game_97 rfl (lv_at hl 4 rfl) ?_
            refine lv_iload hx hb dX1_game_98 (lv_at hl 1 rfl) ?_
            refine lv_iload hx hb dX1_game_100 (lv_at hl 0 rfl) ?_
            obtain ⟨v263, τ264, ν265, hg, hf⟩ := bq_b3s hf
            refine bq_cV (bs := [bbB d ba ca na ta ka ia β, stB d na σ, stB d ta τ261, viB d ca ν262, coB d ca dy fa κ, lsB d ca L mc E.1, giB ca E.1 κ, P]) (bc := [bbB d ba ca na ta ka ia β, stB d na σ, stB d ta τ261, viB d ca ν262, coB d ca dy fa κ, lsB d ca L mc E.1, giB ca E.1 κ, P]) (br := []) (bc' := [bbB d ba ca na ta ka ia β, stB d na σ, stB d ta τ264, viB d ca ν265, coB d ca dy fa κ, lsB d ca L mc E.1, giB ca E.1 κ, P]) (bs' := [bbB d ba ca na ta ka ia β, stB d na σ, stB d ta τ264, viB d ca ν265, coB d ca dy fa κ, lsB d ca L mc E.1, giB ca E.1 κ, P]) (As := [.int x1, .int x2, .int (1 : Int32), .int (1 : Int32)]) (rest := [.int v260]) (o := (some (.int v263))) C hkc hks (met_bl_gains hok hamb hE hby hL hg) (bq_pm [0, 1, 2, 3, 4, 5, 6, 7] rfl rfl rfl) (bq_pm [0, 1, 2, 3, 4, 5, 6, 7] rfl rfl rfl) (lw_V q1650 q1652 qs46 q113 q1653) (hd_X1_gains) (Nat.le_of_ble_eq_true rfl) (Nat.le_of_ble_eq_true rfl) (va_recv hK hP (ci := 1) (q0 := 0) rfl rfl) rfl hl.1 rfl (Nat.le_of_ble_eq_true rfl) dX1_game_102 hP hD hS (fun H locs hP hD hS => ?_)
            refine lv_icmp_gt (tgt := 165) hx hb dX1_game_105 (by decide) (fun c266 => ?_) (fun c266 => ?_)
            · have hf := bq_ip c266 hf
              obtain ⟨v267, ev267, hf⟩ := bq_lts hf
              refine lv_iinc (v := v267) (lv' := [(6, .int v267), (8, .int (1 : Int32)), (7, .int (1 : Int32)), (0, .ref (ba 0)), (1, .int x1), (2, .int x2), (3, .int x3), (4, .int x4), (5, .int x5)]) hx hb dX1_game_165 hl (k := 8) rfl (bq_inc (by decide) ev267) (by decide) rfl (fun ls hl => ?_)
              refine lv_goto (tgt := 43) hx hb dX1_game_168 (by decide) ?_
              exact ih _ _ _ _ _ _ _ _ _ _ _ _ _ hf hP hD hS ls (lv_sub hl [3, 4, 5, 6, 7, 8, 0] rfl) hk0
            · have hf := bq_in c266 hf
              refine lv_aload_n hx hb dX1_game_108 rfl (lv_at hl 2 rfl) ?_
              refine lv_iload_n hx hb dX1_game_109 rfl (lv_at hl 4 rfl) ?_
              refine lv_iload_n hx hb dX1_game_110 rfl (lv_at hl 3 rfl) ?_
              refine lv_iload hx hb dX1_game_111 (lv_at hl 0 rfl) ?_
              refine lv_if_ne (tgt := 120) hx hb dX1_game_113 (by decide) (fun c268 => ?_) (fun c268 => ?_)
              · have hf := bq_in c268 hf
                refine lv_iconst (v := (0 : Int32)) hx hb dX1_game_120 (by decide) ?_
                refine lv_iload hx hb dX1_game_121 (lv_at hl 1 rfl) ?_
                obtain ⟨v269, τ270, ν271, hg, hf⟩ := bq_b3s hf
                refine bq_cV (bs := [bbB d ba ca na ta ka ia β, stB d na σ, stB d ta τ264, viB d ca ν265, coB d ca dy fa κ, lsB d ca L mc E.1, giB ca E.1 κ, P]) (bc := [bbB d ba ca na ta ka ia β, stB d na σ, stB d ta τ264, viB d ca ν265, coB d ca dy fa κ, lsB d ca L mc E.1, giB ca E.1 κ, P]) (br := []) (bc' := [bbB d ba ca na ta ka ia β, stB d na σ, stB d ta τ270, viB d ca ν271, coB d ca dy fa κ, lsB d ca L mc E.1, giB ca E.1 κ, P]) (bs' := [bbB d ba ca na ta ka ia β, stB d na σ, stB d ta τ270, viB d ca ν271, coB d ca dy fa κ, lsB d ca L mc E.1, giB ca E.1 κ, P]) (As := [.int x2, .int x1, .int (0 : Int32), .int (1 : Int32)]) (rest := []) (o := (some (.int v269))) C hkc hks (met_bl_gains hok hamb hE hby hL hg) (bq_pm [0, 1, 2, 3, 4, 5, 6, 7] rfl rfl rfl) (bq_pm [0, 1, 2, 3, 4, 5, 6, 7] rfl rfl rfl) (lw_V q1650 q1652 qs46 q113 q1653) (hd_X1_gains) (Nat.le_of_ble_eq_true rfl) (Nat.le_of_ble_eq_true rfl) (va_recv hK hP (ci := 1) (q0 := 0) rfl rfl) rfl hl.1 rfl (Nat.le_of_ble_eq_true rfl) dX1_game_123 hP hD hS (fun H locs hP hD hS => ?_)
                refine lv_aload_n hx hb dX1_game_126 rfl (lv_at hl 2 rfl) ?_
                refine lv_iload_n hx hb dX1_game_127 rfl (lv_at hl 4 rfl) ?_
                refine lv_iload_n hx hb dX1_game_128 rfl (lv_at hl 3 rfl) ?_
                refine lv_iload hx hb dX1_game_129 (lv_at hl 0 rfl) ?_
                refine lv_iload hx hb dX1_game_131 (lv_at hl 1 rfl) ?_
                obtain ⟨v272, τ273, ν274, hg, hf⟩ := bq_b3s hf
                refine bq_cV (bs := [bbB d ba ca na ta ka ia β, stB d na σ, stB d ta τ270, viB d ca ν271, coB d ca dy fa κ, lsB d ca L mc E.1, giB ca E.1 κ, P]) (bc := [bbB d ba ca na ta ka ia β, stB d na σ, stB d ta τ270, viB d ca ν271, coB d ca dy fa κ, lsB d ca L mc E.1, giB ca E.1 κ, P]) (br := []) (bc' := [bbB d ba ca na ta ka ia β, stB d na σ, stB d ta τ273, viB d ca ν274, coB d ca dy fa κ, lsB d ca L mc E.1, giB ca E.1 κ, P]) (bs' := [bbB d ba ca na ta ka ia β, stB d na σ, stB d ta τ273, viB d ca ν274, coB d ca dy fa κ, lsB d ca L mc E.1, giB ca E.1 κ, P]) (As := [.int x2, .int x1, .int (1 : Int32), .int (1 : Int32)]) (rest := [.int v269]) (o := (some (.int v272))) C hkc hks (met_bl_gains hok hamb hE hby hL hg) (bq_pm [0, 1, 2, 3, 4, 5, 6, 7] rfl rfl rfl) (bq_pm [0, 1, 2, 3, 4, 5, 6, 7] rfl rfl rfl) (lw_V q1650 q1652 qs46 q113 q1653) (hd_X1_gains) (Nat.le_of_ble_eq_true rfl) (Nat.le_of_ble_eq_true rfl) (va_recv hK hP (ci := 1) (q0 := 0) rfl rfl) rfl hl.1 rfl (Nat.le_of_ble_eq_true rfl) dX1_game_133 hP hD hS (fun H locs hP hD hS => ?_)
                refine lv_icmp_le (tgt := 142) hx hb dX1_game_136 (by decide) (fun c275 => ?_) (fun c275 => ?_)
                · have hf := bq_ip c275 hf
                  obtain ⟨v276, ev276, hf⟩ := bq_lts hf
                  refine lv_iinc (v := v276) (lv' := [(4, .int v276), (8, .int (1 : Int32)), (7, .int (1 : Int32)), (0, .ref (ba 0)), (1, .int x1), (2, .int x2), (3, .int x3), (5, .int x5), (6, .int x6)]) hx hb dX1_game_142 hl (k := 6) rfl (bq_inc (by decide) ev276) (by decide) rfl (fun ls hl => ?_)
                  refine lv_iload hx hb dX1_game_145 (lv_at hl 7 rfl) ?_
                  refine lv_iconst (v := (-1 : Int32)) hx hb dX1_game_147 (by decide) ?_
                  refine lv_icmp_ne (tgt := 165) hx hb dX1_game_148 (by decide) (fun c277 => ?_) (fun c277 => ?_)
                  · have hf := bq_in c277 hf
                    obtain ⟨v278, ev278, hf⟩ := bq_lts hf
                    refine lv_iinc (v := v278) (lv' := [(6, .int v278), (4, .int v276), (8, .int (1 : Int32)), (7, .int (1 : Int32)), (0, .ref (ba 0)), (1, .int x1), (2, .int x2), (3, .int x3), (5, .int x5)]) hx hb dX1_game_165 hl (k := 8) rfl (bq_inc (by decide) ev278) (by decide) rfl (fun ls hl => ?_)
                    refine lv_goto (tgt := 43) hx hb dX1_game_168 (by decide) ?_
                    exact ih _ _ _ _ _ _ _ _ _ _ _ _ _ hf hP hD hS ls (lv_sub hl [4, 5, 6, 7, 1, 8, 0] rfl) hk0
                  · have hf := bq_ip c277 hf
                    refine lv_iload hx hb dX1_game_151 (lv_at hl 8 rfl) ?_
                    refine lv_iconst (v := (2 : Int32)) hx hb dX1_game_153 (by decide) ?_
                    refine lv_idiv hx hb dX1_game_154 (by decide) ?_
                    refine lv_bipush (v := (10 : Int32)) hx hb dX1_game_155 (by decide) ?_
                    refine lv_imul hx hb dX1_game_157 ?_
                    refine lv_iload hx hb dX1_game_158 (lv_at hl 8 rfl) ?_
                    refine lv_iconst (v := (2 : Int32)) hx hb dX1_game_160 (by decide) ?_
                    refine lv_irem hx hb dX1_game_161 (by decide) ?_
                    refine lv_iadd hx hb dX1_game_162 ?_
                    obtain ⟨v279, ev279, hf⟩ := bq_lts hf
                    refine bq_tope ev279 ?_
                    refine lv_istore (lv' := [(5, .int v279), (4, .int v276), (8, .int (1 : Int32)), (7, .int (1 : Int32)), (0, .ref (ba 0)), (1, .int x1), (2, .int x2), (3, .int x3), (6, .int x6)]) hx hb dX1_game_163 hl (by decide) rfl (fun ls hl => ?_)
                    obtain ⟨v280, ev280, hf⟩ := bq_lts hf
                    refine lv_iinc (v := v280) (lv' := [(6, .int v280), (5, .int v279), (4, .int v276), (8, .int (1 : Int32)), (7, .int (1 : Int32)), (0, .ref (ba 0)), (1, .int x1), (2, .int x2), (3, .int x3)]) hx hb dX1_game_165 hl (k := 8) rfl (bq_inc (by decide) ev280) (by decide) rfl (fun ls hl => ?_)
                    refine lv_goto (tgt := 43) hx hb dX1_game_168 (by decide) ?_
                    exact ih _ _ _ _ _ _ _ _ _ _ _ _ _ hf hP hD hS ls (lv_sub hl [5, 6, 7, 8, 2, 1, 0] rfl) hk0
                · have hf := bq_in c275 hf
                  refine lv_goto (tgt := 165) hx hb dX1_game_139 (by decide) ?_
                  obtain ⟨v281, ev281, hf⟩ := bq_lts hf
                  refine lv_iinc (v := v281) (lv' := [(6, .int v281), (8, .int (1 : Int32)), (7, .int (1 : Int32)), (0, .ref (ba 0)), (1, .int x1), (2, .int x2), (3, .int x3), (4, .int x4), (5, .int x5)]) hx hb dX1_game_165 hl (k := 8) rfl (bq_inc (by decide) ev281) (by decide) rfl (fun ls hl => ?_)
                  refine lv_goto (tgt := 43) hx hb dX1_game_168 (by decide) ?_
                  exact ih _ _ _ _ _ _ _ _ _ _ _ _ _ hf hP hD hS ls (lv_sub hl [3, 4, 5, 6, 7, 8, 0] rfl) hk0
              · have hf := bq_ip c268 hf
                refine lv_iconst (v := (1 : Int32)) hx hb dX1_game_116 (by decide) ?_
                refine lv_goto (tgt := 121) hx hb dX1_game_117 (by decide) ?_
                refine lv_iload hx hb dX1_game_121 (lv_at hl 1 rfl) ?_
                obtain ⟨v282, τ283, ν284, hg, hf⟩ := bq_b3s hf
                refine bq_cV (bs := [bbB d ba ca na ta ka ia β, stB d na σ, stB d ta τ264, viB d ca ν265, coB d ca dy fa κ, lsB d ca L mc E.1, giB ca E.1 κ, P]) (bc := [bbB d ba ca na ta ka ia β, stB d na σ, stB d ta τ264, viB d ca ν265, coB d ca dy fa κ, lsB d ca L mc E.1, giB ca E.1 κ, P]) (br := []) (bc' := [bbB d ba ca na ta ka ia β, stB d na σ, stB d ta τ283, viB d ca ν284, coB d ca dy fa κ, lsB d ca L mc E.1, giB ca E.1 κ, P]) (bs' := [bbB d ba ca na ta ka ia β, stB d na σ, stB d ta τ283, viB d ca ν284, coB d ca dy fa κ, lsB d ca L mc E.1, giB ca E.1 κ, P]) (As := [.int x2, .int x1, .int (1 : Int32), .int (1 : Int32)]) (rest := []) (o := (some (.int v282))) C hkc hks (met_bl_gains hok hamb hE hby hL hg) (bq_pm [0, 1, 2, 3, 4, 5, 6, 7] rfl rfl rfl) (bq_pm [0, 1, 2, 3, 4, 5, 6, 7] rfl rfl rfl) (lw_V q1650 q1652 qs46 q113 q1653) (hd_X1_gains) (Nat.le_of_ble_eq_true rfl) (Nat.le_of_ble_eq_true rfl) (va_recv hK hP (ci := 1) (q0 := 0) rfl rfl) rfl hl.1 rfl (Nat.le_of_ble_eq_true rfl) dX1_game_123 hP hD hS (fun H locs hP hD hS => ?_)
                refine lv_aload_n hx hb dX1_game_126 rfl (lv_at hl 2 rfl) ?_
                refine lv_iload_n hx hb dX1_game_127 rfl (lv_at hl 4 rfl) ?_
                refine lv_iload_n hx hb dX1_game_128 rfl (lv_at hl 3 rfl) ?_
                refine lv_iload hx hb dX1_game_129 (lv_at hl 0 rfl) ?_
                refine lv_iload hx hb dX1_game_131 (lv_at hl 1 rfl) ?_
                obtain ⟨v285, τ286, ν287, hg, hf⟩ := bq_b3s hf
                refine bq_cV (bs := [bbB d ba ca na ta ka ia β, stB d na σ, stB d ta τ283, viB d ca ν284, coB d ca dy fa κ, lsB d ca L mc E.1, giB ca E.1 κ, P]) (bc := [bbB d ba ca na ta ka ia β, stB d na σ, stB d ta τ283, viB d ca ν284, coB d ca dy fa κ, lsB d ca L mc E.1, giB ca E.1 κ, P]) (br := []) (bc' := [bbB d ba ca na ta ka ia β, stB d na σ, stB d ta τ286, viB d ca ν287, coB d ca dy fa κ, lsB d ca L mc E.1, giB ca E.1 κ, P]) (bs' := [bbB d ba ca na ta ka ia β, stB d na σ, stB d ta τ286, viB d ca ν287, coB d ca dy fa κ, lsB d ca L mc E.1, giB ca E.1 κ, P]) (As := [.int x2, .int x1, .int (1 : Int32), .int (1 : Int32)]) (rest := [.int v282]) (o := (some (.int v285))) C hkc hks (met_bl_gains hok hamb hE hby hL hg) (bq_pm [0, 1, 2, 3, 4, 5, 6, 7] rfl rfl rfl) (bq_pm [0, 1, 2, 3, 4, 5, 6, 7] rfl rfl rfl) (lw_V q1650 q1652 qs46 q113 q1653) (hd_X1_gains) (Nat.le_of_ble_eq_true rfl) (Nat.le_of_ble_eq_true rfl) (va_recv hK hP (ci := 1) (q0 := 0) rfl rfl) rfl hl.1 rfl (Nat.le_of_ble_eq_true rfl) dX1_game_133 hP hD hS (fun H locs hP hD hS => ?_)
                refine lv_icmp_le (tgt := 142) hx hb dX1_game_136 (by decide) (fun c288 => ?_) (fun c288 => ?_)
                · have hf := bq_ip c288 hf
                  obtain ⟨v289, ev289, hf⟩ := bq_lts hf
                  refine lv_iinc (v := v289) (lv' := [(4, .int v289), (8, .int (1 : Int32)), (7, .int (1 : Int32)), (0, .ref (ba 0)), (1, .int x1), (2, .int x2), (3, .int x3), (5, .int x5), (6, .int x6)]) hx hb dX1_game_142 hl (k := 6) rfl (bq_inc (by decide) ev289) (by decide) rfl (fun ls hl => ?_)
                  refine lv_iload hx hb dX1_game_145 (lv_at hl 7 rfl) ?_
                  refine lv_iconst (v := (-1 : Int32)) hx hb dX1_game_147 (by decide) ?_
                  refine lv_icmp_ne (tgt := 165) hx hb dX1_game_148 (by decide) (fun c290 => ?_) (fun c290 => ?_)
                  · have hf := bq_in c290 hf
                    obtain ⟨v291, ev291, hf⟩ := bq_lts hf
                    refine lv_iinc (v := v291) (lv' := [(6, .int v291), (4, .int v289), (8, .int (1 : Int32)), (7, .int (1 : Int32)), (0, .ref (ba 0)), (1, .int x1), (2, .int x2), (3, .int x3), (5, .int x5)]) hx hb dX1_game_165 hl (k := 8) rfl (bq_inc (by decide) ev291) (by decide) rfl (fun ls hl => ?_)
                    refine lv_goto (tgt := 43) hx hb dX1_game_168 (by decide) ?_
                    exact ih _ _ _ _ _ _ _ _ _ _ _ _ _ hf hP hD hS ls (lv_sub hl [4, 5, 6, 7, 1, 8, 0] rfl) hk0
                  · have hf := bq_ip c290 hf
                    refine lv_iload hx hb dX1_game_151 (lv_at hl 8 rfl) ?_
                    refine lv_iconst (v := (2 : Int32)) hx hb dX1_game_153 (by decide) ?_
                    refine lv_idiv hx hb dX1_game_154 (by decide) ?_
                    refine lv_bipush (v := (10 : Int32)) hx hb dX1_game_155 (by decide) ?_
                    refine lv_imul hx hb dX1_game_157 ?_
                    refine lv_iload hx hb dX1_game_158 (lv_at hl 8 rfl) ?_
                    refine lv_iconst (v := (2 : Int32)) hx hb dX1_game_160 (by decide) ?_
                    refine lv_irem hx hb dX1_game_161 (by decide) ?_
                    refine lv_iadd hx hb dX1_game_162 ?_
                    obtain ⟨v292, ev292, hf⟩ := bq_lts hf
                    refine bq_tope ev292 ?_
                    refine lv_istore (lv' := [(5, .int v292), (4, .int v289), (8, .int (1 : Int32)), (7, .int (1 : Int32)), (0, .ref (ba 0)), (1, .int x1), (2, .int x2), (3, .int x3), (6, .int x6)]) hx hb dX1_game_163 hl (by decide) rfl (fun ls hl => ?_)
                    obtain ⟨v293, ev293, hf⟩ := bq_lts hf
                    refine lv_iinc (v := v293) (lv' := [(6, .int v293), (5, .int v292), (4, .int v289), (8, .int (1 : Int32)), (7, .int (1 : Int32)), (0, .ref (ba 0)), (1, .int x1), (2, .int x2), (3, .int x3)]) hx hb dX1_game_165 hl (k := 8) rfl (bq_inc (by decide) ev293) (by decide) rfl (fun ls hl => ?_)
                    refine lv_goto (tgt := 43) hx hb dX1_game_168 (by decide) ?_
                    exact ih _ _ _ _ _ _ _ _ _ _ _ _ _ hf hP hD hS ls (lv_sub hl [5, 6, 7, 8, 2, 1, 0] rfl) hk0
                · have hf := bq_in c288 hf
                  refine lv_goto (tgt := 165) hx hb dX1_game_139 (by decide) ?_
                  obtain ⟨v294, ev294, hf⟩ := bq_lts hf
                  refine lv_iinc (v := v294) (lv' := [(6, .int v294), (8, .int (1 : Int32)), (7, .int (1 : Int32)), (0, .ref (ba 0)), (1, .int x1), (2, .int x2), (3, .int x3), (4, .int x4), (5, .int x5)]) hx hb dX1_game_165 hl (k := 8) rfl (bq_inc (by decide) ev294) (by decide) rfl (fun ls hl => ?_)
                  refine lv_goto (tgt := 43) hx hb dX1_game_168 (by decide) ?_
                  exact ih _ _ _ _ _ _ _ _ _ _ _ _ _ hf hP hD hS ls (lv_sub hl [3, 4, 5, 6, 7, 8, 0] rfl) hk0
