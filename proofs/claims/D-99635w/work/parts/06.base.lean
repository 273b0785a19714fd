/-! base: abstract states, combinators of the pure functions, contracts with one answer -/
set_option maxRecDepth 100000
abbrev bqS : Type := Nat → Nat → Int32
def bq_up (σ : bqS) (k i : Nat) (v : Int32) : bqS := va_up σ k (upd (σ k) i v)
def bq_ck {α : Type} (i : Int32) (n : Nat) (k : Option α) : Option α := if 0 ≤ i.toInt ∧ i.toInt < (n : Int) then k else none
def bq_nz {α : Type} (y : Int32) (k : Option α) : Option α := if y = 0 then none else k
def bq_bb {α : Type} (v : Int32) (k : Option α) : Option α := if v = 0 ∨ v = 1 then k else none
def bq_lt {α β : Type} (e : α) (k : α → Option β) : Option β := k e
def bq_b1 {α β : Type} (o : Option α) (k : α → Option β) : Option β := o.bind k
def bq_b2 {α1 α2 β : Type} (o : Option (α1 × α2)) (k : α1 → α2 → Option β) : Option β := o.bind fun p => k p.1 p.2
def bq_b3 {α1 α2 α3 β : Type} (o : Option (α1 × α2 × α3)) (k : α1 → α2 → α3 → Option β) : Option β := o.bind fun p => k p.1 p.2.1 p.2.2
def bq_b4 {α1 α2 α3 α4 β : Type} (o : Option (α1 × α2 × α3 × α4)) (k : α1 → α2 → α3 → α4 → Option β) : Option β := o.bind fun p => k p.1 p.2.1 p.2.2.1 p.2.2.2
def bq_b5 {α1 α2 α3 α4 α5 β : Type} (o : Option (α1 × α2 × α3 × α4 × α5)) (k : α1 → α2 → α3 → α4 → α5 → Option β) : Option β := o.bind fun p => k p.1 p.2.1 p.2.2.1 p.2.2.2.1 p.2.2.2.2
def bq_b6 {α1 α2 α3 α4 α5 α6 β : Type} (o : Option (α1 × α2 × α3 × α4 × α5 × α6)) (k : α1 → α2 → α3 → α4 → α5 → α6 → Option β) : Option β := o.bind fun p => k p.1 p.2.1 p.2.2.1 p.2.2.2.1 p.2.2.2.2.1 p.2.2.2.2.2
def bq_b7 {α1 α2 α3 α4 α5 α6 α7 β : Type} (o : Option (α1 × α2 × α3 × α4 × α5 × α6 × α7)) (k : α1 → α2 → α3 → α4 → α5 → α6 → α7 → Option β) : Option β := o.bind fun p => k p.1 p.2.1 p.2.2.1 p.2.2.2.1 p.2.2.2.2.1 p.2.2.2.2.2.1 p.2.2.2.2.2.2
theorem bq_cks {α : Type} {i : Int32} {n : Nat} {k : Option α} {r : α} (h : bq_ck i n k = some r) : vp_in i n ∧ k = some r := by
  unfold bq_ck at h
  split at h
  · rename_i hc
    exact ⟨vp_in_iff.mpr hc, h⟩
  · cases h
theorem bq_nzs {α : Type} {y : Int32} {k : Option α} {r : α} (h : bq_nz y k = some r) : ¬ y = 0 ∧ k = some r := by
  unfold bq_nz at h
  split at h
  · cases h
  · rename_i hc
    exact ⟨hc, h⟩
theorem bq_bbs {α : Type} {v : Int32} {k : Option α} {r : α} (h : bq_bb v k = some r) : (v = 0 ∨ v = 1) ∧ k = some r := by
  unfold bq_bb at h
  split at h
  · rename_i hc
    exact ⟨hc, h⟩
  · cases h
theorem bq_nar {v : Int32} (h : v = 0 ∨ v = 1) : narrow .boolean (.int v) = .int v := by
  rcases h with rfl | rfl <;> rfl
theorem bq_fitb {v : Int32} (h : v = 0 ∨ v = 1) : fits .boolean (.int v) = true := by
  rcases h with rfl | rfl <;> decide
theorem bq_lts {α β : Type} {e : α} {k : α → Option β} {r : β} (h : bq_lt e k = some r) : ∃ x, x = e ∧ k x = some r := ⟨e, rfl, h⟩
theorem bq_b1s {α β : Type} {o : Option α} {k : α → Option β} {r : β} (h : bq_b1 o k = some r) : ∃ x, o = some x ∧ k x = some r := by
  cases o with
  | none => cases h
  | some x => exact ⟨x, rfl, h⟩
theorem bq_b2s {α1 α2 β : Type} {o : Option (α1 × α2)} {k : α1 → α2 → Option β} {r : β} (h : bq_b2 o k = some r) : ∃ x1 x2, o = some (x1, x2) ∧ k x1 x2 = some r := by
  cases o with
  | none => cases h
  | some x => exact ⟨_, _, rfl, h⟩
theorem bq_b3s {α1 α2 α3 β : Type} {o : Option (α1 × α2 × α3)} {k : α1 → α2 → α3 → Option β} {r : β} (h : bq_b3 o k = some r) : ∃ x1 x2 x3, o = some (x1, x2, x3) ∧ k x1 x2 x3 = some r := by
  cases o with
  | none => cases h
  | some x => exact ⟨_, _, _, rfl, h⟩
theorem bq_b4s {α1 α2 α3 α4 β : Type} {o : Option (α1 × α2 × α3 × α4)} {k : α1 → α2 → α3 → α4 → Option β} {r : β} (h : bq_b4 o k = some r) : ∃ x1 x2 x3 x4, o = some (x1, x2, x3, x4) ∧ k x1 x2 x3 x4 = some r := by
  cases o with
  | none => cases h
  | some x => exact ⟨_, _, _, _, rfl, h⟩
theorem bq_b5s {α1 α2 α3 α4 α5 β : Type} {o : Option (α1 × α2 × α3 × α4 × α5)} {k : α1 → α2 → α3 → α4 → α5 → Option β} {r : β} (h : bq_b5 o k = some r) : ∃ x1 x2 x3 x4 x5, o = some (x1, x2, x3, x4, x5) ∧ k x1 x2 x3 x4 x5 = some r := by
  cases o with
  | none => cases h
  | some x => exact ⟨_, _, _, _, _, rfl, h⟩
theorem bq_b6s {α1 α2 α3 α4 α5 α6 β : Type} {o : Option (α1 × α2 × α3 × α4 × α5 × α6)} {k : α1 → α2 → α3 → α4 → α5 → α6 → Option β} {r : β} (h : bq_b6 o k = some r) : ∃ x1 x2 x3 x4 x5 x6, o = some (x1, x2, x3, x4, x5, x6) ∧ k x1 x2 x3 x4 x5 x6 = some r := by
  cases o with
  | none => cases h
  | some x => exact ⟨_, _, _, _, _, _, rfl, h⟩
theorem bq_b7s {α1 α2 α3 α4 α5 α6 α7 β : Type} {o : Option (α1 × α2 × α3 × α4 × α5 × α6 × α7)} {k : α1 → α2 → α3 → α4 → α5 → α6 → α7 → Option β} {r : β} (h : bq_b7 o k = some r) : ∃ x1 x2 x3 x4 x5 x6 x7, o = some (x1, x2, x3, x4, x5, x6, x7) ∧ k x1 x2 x3 x4 x5 x6 x7 = some r := by
  cases o with
  | none => cases h
  | some x => exact ⟨_, _, _, _, _, _, _, rfl, h⟩
theorem bq_ip {α : Type} {c : Prop} [Decidable c] {a b r : α} (h : c) (hf : (if c then a else b) = r) : a = r := by rw [if_pos h] at hf; exact hf
theorem bq_in {α : Type} {c : Prop} [Decidable c] {a b r : α} (h : ¬ c) (hf : (if c then a else b) = r) : b = r := by rw [if_neg h] at hf; exact hf
/-! worlds as sets of cells -/
theorem bq_Pm {D : va_G} {cl : List vw_C} {ws : va_W} {H : Heap} : va_P D cl ws H ↔ ∀ q ∈ ws, va_at D cl q H :=
  ⟨fun h q hq => by
    obtain ⟨i, hi⟩ := List.getElem?_of_mem hq
    exact h i q hi, fun h k q hk => h q (List.mem_of_getElem? hk)⟩
theorem bq_Dn {A : Nat → Prop} {ws : va_W} : va_D A ws ↔ (ws.map Prod.fst).Nodup ∧ ∀ q ∈ ws, A q.1 := by
  constructor
  · intro h
    refine ⟨?_, fun q hq => ?_⟩
    · unfold List.Nodup
      rw [List.pairwise_iff_getElem]
      intro i j hi hj hij he
      rw [List.length_map] at hi hj
      rw [List.getElem_map, List.getElem_map] at he
      have := h.1 i j _ _ (List.getElem?_eq_getElem hi) (List.getElem?_eq_getElem hj) he
      omega
    · obtain ⟨i, hi⟩ := List.getElem?_of_mem hq
      exact h.2 i q hi
  · intro h
    refine ⟨fun i j x y hi hj hxy => ?_, fun k q hk => h.2 q (List.mem_of_getElem? hk)⟩
    have hp := h.1
    unfold List.Nodup at hp
    rw [List.pairwise_iff_getElem] at hp
    obtain ⟨li, ei⟩ := List.getElem?_eq_some_iff.mp hi
    obtain ⟨lj, ej⟩ := List.getElem?_eq_some_iff.mp hj
    rcases Nat.lt_trichotomy i j with c | c | c
    · exact absurd (by rw [List.getElem_map, List.getElem_map, ei, ej]; exact hxy) (hp i j (by rw [List.length_map]; exact li) (by rw [List.length_map]; exact lj) c)
    · exact c
    · exact absurd (by rw [List.getElem_map, List.getElem_map, ei, ej]; exact hxy.symm) (hp j i (by rw [List.length_map]; exact lj) (by rw [List.length_map]; exact li) c)
theorem bq_Am {ws : va_W} {sz q : Nat} : va_A ws sz q ↔ (∃ e : va_E, (q, e) ∈ ws) ∨ sz ≤ q := by
  unfold va_A
  constructor
  · intro h
    rcases h with ⟨k, e, h⟩ | h
    · exact Or.inl ⟨e, List.mem_of_getElem? h⟩
    · exact Or.inr h
  · intro h
    rcases h with ⟨e, h⟩ | h
    · obtain ⟨k, hk⟩ := List.getElem?_of_mem h
      exact Or.inl ⟨k, e, hk⟩
    · exact Or.inr h
theorem bq_Pp {D : va_G} {cl : List vw_C} {ws ws' : va_W} {H : Heap} (hp : ws.Perm ws') (h : va_P D cl ws H) : va_P D cl ws' H := bq_Pm.mpr fun q hq => bq_Pm.mp h q (hp.mem_iff.mpr hq)
theorem bq_Dp {A : Nat → Prop} {ws ws' : va_W} (hp : ws.Perm ws') (h : va_D A ws) : va_D A ws' := by
  have h1 := bq_Dn.mp h
  exact bq_Dn.mpr ⟨(hp.map Prod.fst).nodup_iff.mp h1.1, fun q hq => h1.2 q (hp.mem_iff.mpr hq)⟩
theorem bq_Ap {ws ws' : va_W} {sz q : Nat} (hp : ws.Perm ws') : va_A ws sz q ↔ va_A ws' sz q := by
  rw [bq_Am, bq_Am]
  constructor
  · intro h
    rcases h with ⟨e, h⟩ | h
    · exact Or.inl ⟨e, hp.mem_iff.mp h⟩
    · exact Or.inr h
  · intro h
    rcases h with ⟨e, h⟩ | h
    · exact Or.inl ⟨e, hp.mem_iff.mpr h⟩
    · exact Or.inr h
theorem bq_PL {D : va_G} {cl : List vw_C} {a b : va_W} {H : Heap} (h : va_P D cl (a ++ b) H) : va_P D cl a H := bq_Pm.mpr fun q hq => bq_Pm.mp h q (List.mem_append_left _ hq)
theorem bq_PR {D : va_G} {cl : List vw_C} {a b : va_W} {H : Heap} (h : va_P D cl (a ++ b) H) : va_P D cl b H := bq_Pm.mpr fun q hq => bq_Pm.mp h q (List.mem_append_right _ hq)
theorem bq_DL {A : Nat → Prop} {a b : va_W} (h : va_D A (a ++ b)) : va_D A a := by
  have h1 := bq_Dn.mp h
  rw [List.map_append] at h1
  exact bq_Dn.mpr ⟨(List.nodup_append.mp h1.1).1, fun q hq => h1.2 q (List.mem_append_left _ hq)⟩
/-- the frame rule: what came back beside the rest, which is unchanged -/
theorem bq_join {A0 : Nat → Prop} {D : va_G} {cl : List vw_C} {W0 wc wr w1 : va_W} {H H1 : Heap} (hP : va_P D cl W0 H) (hD : va_D A0 W0) (hp : W0.Perm (wc ++ wr)) (hk : ∀ q : Nat, q < H.size → ¬ va_A wc H.size q → H1[q]? = H[q]?) (hF : ∀ q, va_A wc H.size q → A0 q) (hP1 : va_P D cl w1 H1) (hD1 : va_D (va_A wc H.size) w1) : va_P D cl (w1 ++ wr) H1 ∧ va_D A0 (w1 ++ wr) := by
  have hPa := bq_Pm.mp (bq_Pp hp hP)
  have hDa := bq_Dn.mp (bq_Dp hp hD)
  have hDb := bq_Dn.mp hD1
  rw [List.map_append] at hDa
  have hna := List.nodup_append.mp hDa.1
  have apart : ∀ q ∈ wr, q.1 < H.size ∧ ¬ va_A wc H.size q.1 := by
    intro q hq
    have hl := (hPa q (List.mem_append_right _ hq)).lt
    refine ⟨hl, fun h => ?_⟩
    rcases bq_Am.mp h with ⟨e, h⟩ | h
    · exact hna.2.2 q.1 (List.mem_map.mpr ⟨_, h, rfl⟩) q.1 (List.mem_map.mpr ⟨_, hq, rfl⟩) rfl
    · omega
  refine ⟨bq_Pm.mpr fun q hq => ?_, bq_Dn.mpr ⟨?_, fun q hq => ?_⟩⟩
  · rcases List.mem_append.mp hq with h | h
    · exact bq_Pm.mp hP1 q h
    · obtain ⟨h1, h2⟩ := apart q h
      exact (hPa q (List.mem_append_right _ h)).kept (hk q.1 h1 h2)
  · rw [List.map_append]
    refine List.nodup_append.mpr ⟨hDb.1, hna.2.1, fun x hx y hy => ?_⟩
    obtain ⟨u, hu, rfl⟩ := List.mem_map.mp hx
    obtain ⟨v, hv, rfl⟩ := List.mem_map.mp hy
    intro e
    exact (apart v hv).2 (by rw [← e]; exact hDb.2 u hu)
  · rcases List.mem_append.mp hq with h | h
    · exact hF _ (hDb.2 q h)
    · exact hDa.2 q (List.mem_append_right _ h)
theorem bq_free {A0 : Nat → Prop} {W0 wc wr : va_W} {H0 H : Heap} {locs : List Loc} (hD : va_D A0 W0) (hS : va_S A0 H0 H locs) (hA : ∀ q, H0.size ≤ q → A0 q) (hp : W0.Perm (wc ++ wr)) : ∀ q, va_A wc H.size q → A0 q := by
  intro q h
  rcases bq_Am.mp h with ⟨e, h⟩ | h
  · exact (bq_Dn.mp hD).2 (q, e) (hp.mem_iff.mpr (List.mem_append_left _ h))
  · exact hA q (Nat.le_trans hS.1 h)
/-! contracts with one answer -/
abbrev bqAm : Type := (Nat → Prop) → State → Heap → Prop
/-- what is ambient holds on: read-only cells outside the method's own, and the tables -/
def bq_Ok (am : bqAm) : Prop := (∀ (A A' : Nat → Prop) (s U : State) (H : Heap) (locs : List Loc), am A s s.heap → va_S A s.heap H locs → (∀ q, A' q → A q) → U.heap = H → s.WarmedH U.vm → am A' U U.heap) ∧ ∀ (A : Nat → Prop) (U : State) (g : JFrame) (mk : MethodId) (a : Array Value), am A U U.heap → am A (U.calling g mk a) (U.calling g mk a).heap
def bq_P (D : va_G) (cl : List vw_C) (tys : List (ClassId × FieldType)) (am : bqAm) (args : List Value) (w : va_W) (sz : Nat) : Array Value → State → Prop := va_Pc args (fun U => U.heap.size = sz ∧ va_P D cl w U.heap ∧ va_K D cl tys U ∧ va_D (fun _ => True) w ∧ am (va_A w sz) U U.heap)
def bq_Q (D : va_G) (cl : List vw_C) (o : Option Value) (w' : va_W) (A : Nat → Prop) : Array Value → State → Outcome → State → Prop := fun _ st oc t => (oc = .returned o ∧ va_P D cl w' t.heap ∧ va_D A w') ∧ va_F A st t
theorem bq_blind {D : va_G} {cl : List vw_C} {tys : List (ClassId × FieldType)} {am : bqAm} {args : List Value} {w : va_W} {sz : Nat} (hok : bq_Ok am) : FrameBlind (bq_P D cl tys am args w sz) := by
  intro a U g mk q
  obtain ⟨q0, q1, qP, qK, qD, qm⟩ := q
  exact ⟨q0, q1, qP, va_K.moved (u := U) (U := U.calling g mk a) (Vm.Alike.refl U.vm) qK, qD, hok.2 _ U g mk a qm⟩
/-- method y answers o and leaves the world w' where it found w -/
def bq_M (l : Launch) (y : MethodName) (b : ByteArray) (nL : Nat) (ret : Option FieldType) (NF NL : Nat) (D : va_G) (cl : List vw_C) (tys : List (ClassId × FieldType)) (am : bqAm) (args : List Value) (w : va_W) (o : Option Value) (w' : va_W) : Prop :=
  ∀ sz : Nat, Met l y (ws_ y b nL ret) { frames := NF, cells := 0, slots := 0, locals := NL } (bq_P D cl tys am args w sz) (bq_Q D cl o w' (va_A w sz)) 0 0 (va_A w sz)
/-- what holds all through a method's run -/
def bq_C (p : Program) (R : Room) (s : State) (m : MethodId) (args : Array Value) (meth : Method) (c : Code) (A : Nat → Prop) (D : va_G) (cl : List vw_C) (tys : List (ClassId × FieldType)) (am : bqAm) (cc : ByteArray) (nL : Nat) (own : String) (NF NL : Nat) : Prop :=
  p.tables.exec = Jvm.exec ∧ c.code = cc ∧ s.vm.findClass own = some m.cls ∧ (∀ w ∈ lw_all, w.before args s = true) ∧ c.maxLocals = nL ∧ meth.locks = false ∧ (∀ q : Nat, s.heap.size ≤ q → A q) ∧ va_K D cl tys s ∧ am A s s.heap ∧ NF ≤ R.frames ∧ NL ≤ R.locals ∧ bq_Ok am
theorem bq_of {l : Launch} {y : MethodName} {b : ByteArray} {nL : Nat} {ret : Option FieldType} {NF NL : Nat} {D : va_G} {cl : List vw_C} {tys : List (ClassId × FieldType)} {am : bqAm} {args : List Value} {w : va_W} {o : Option Value} {w' : va_W} (hok : bq_Ok am) (hy : plainName y.cls = true) (hn : (lg_sl args).length ≤ nL)
    (body : ∀ (p : Program) (e : Env) (s : State) (m : MethodId) (below : List Frame) (meth : Method) (c : Code) (A : Nat → Prop) (ls : Array Slot), bq_C p { frames := NF, cells := 0, slots := 0, locals := NL } s m args.toArray meth c A D cl tys am b nL y.cls NF NL → meth.sig.returnType = ret → va_P D cl w s.heap → va_D A w → va_S A s.heap s.heap [] → lv_has ls nL (lv_args 0 args) →
      W p l e { frames := NF, cells := 0, slots := 0, locals := NL } s m args.toArray below meth c s.heap [] 0 0 (MQ below (bq_Q D cl o w' A) args.toArray s 0 0 A) (F0 m 0 ls [])) : bq_M l y b nL ret NF NL D cl tys am args w o w' := by
  intro sz
  refine Met.ofW (cc := b) (maxL := nL) (ret := ret) hy rfl ?_
  intro p e s m args' below meth c s₁ B hml hv
  obtain ⟨rfl, hsz, hP, hK, hD0, hm⟩ := hv
  have hts := atoms_spec (ws := ws_ y b nL ret) B.pre
  have hts : ∀ w ∈ lw_all, w.before _ s = true := fun w h => hts w (List.mem_cons_of_mem _ h)
  have hown : s.vm.findClass y.cls = some m.cls := findClass_of_methodNamed B.named
  subst hsz
  have hl := lv_entry args (n := nL) hn
  rw [lg_entry_eq]
  exact body p e s m below meth c _ _ ⟨B.exec, B.bytes, hown, hts, hml, B.notSynchronized, fun q h => Or.inr h, hK, hm, Nat.le_refl _, Nat.le_refl _, hok⟩ B.returns hP hD0.self va_S.rf hl
section BQ1
variable {p : Program} {l : Launch} {e : Env} {R : Room} {s : State} {m : MethodId} {args : Array Value} {below : List Frame} {meth : Method} {c : Code} {H : Heap} {locs : List Loc} {Q : State → Prop} {A : Nat → Prop} {D : va_G} {cl : List vw_C} {tys : List (ClassId × FieldType)} {am : bqAm} {cc : ByteArray} {nL NF NL pc : Nat} {own : String} {ls : Array Slot} {rest st : List Value} {o : Option Value} {w w' wr W0 : va_W}
theorem bq_iret {v : Int32} (C : bq_C p R s m args meth c A D cl tys am cc nL own NF NL) (hr : meth.sig.returnType = some .int) (hP : va_P D cl w H) (hD : va_D A w) (hS : va_S A s.heap H locs) (hdg : decode cc pc = .ok (.ireturn, 1)) :
    W p l e R s m args below meth c H locs 0 0 (MQ below (bq_Q D cl (some (.int v)) w A) args s 0 0 A) (F0 m pc ls [.int v]) := by
  obtain ⟨hx, hb, hown, hts, hml, hlocks, hA, hK, hm, -, -, -⟩ := C
  exact W.iret hx hb hr (fun t ht hW => ⟨⟨rfl, by rw [ht]; exact hP, hD⟩, hS.F ht⟩) hS.2.2 hdg hlocks
theorem bq_zret {v : Int32} (C : bq_C p R s m args meth c A D cl tys am cc nL own NF NL) (hr : meth.sig.returnType = some .boolean) (hv : v = 0 ∨ v = 1) (hP : va_P D cl w H) (hD : va_D A w) (hS : va_S A s.heap H locs) (hdg : decode cc pc = .ok (.ireturn, 1)) :
    W p l e R s m args below meth c H locs 0 0 (MQ below (bq_Q D cl (some (.int v)) w A) args s 0 0 A) (F0 m pc ls [.int v]) := by
  obtain ⟨hx, hb, hown, hts, hml, hlocks, hA, hK, hm, -, -, -⟩ := C
  exact W.zret hx hb hr (bq_nar hv) (fun t ht hW => ⟨⟨rfl, by rw [ht]; exact hP, hD⟩, hS.F ht⟩) hS.2.2 hdg hlocks
theorem bq_vret (C : bq_C p R s m args meth c A D cl tys am cc nL own NF NL) (hr : meth.sig.returnType = none) (hP : va_P D cl w H) (hD : va_D A w) (hS : va_S A s.heap H locs) (hdg : decode cc pc = .ok (.return_, 1)) :
    W p l e R s m args below meth c H locs 0 0 (MQ below (bq_Q D cl none w A) args s 0 0 A) (F0 m pc ls []) := by
  obtain ⟨hx, hb, hown, hts, hml, hlocks, hA, hK, hm, -, -, -⟩ := C
  exact W.vret hx hb hr (fun t ht hW => ⟨⟨rfl, by rw [ht]; exact hP, hD⟩, hS.F ht⟩) hS.2.2 hdg hlocks
theorem bq_fin {a : Array Value} (hr : va_Run p l e R s m args below meth c H locs 0 0 0 0 (F0 m pc ls st) rest (bq_Q D cl o w' (va_A w H.size) a) (va_A w H.size)) (hA : ∀ q : Nat, s.heap.size ≤ q → A q) (hP : va_P D cl W0 H) (hD : va_D A W0) (hS : va_S A s.heap H locs) (hp : W0.Perm (w ++ wr))
    (kk : ∀ (H1 : Heap) (locs1 : List Loc), va_P D cl (w' ++ wr) H1 → va_D A (w' ++ wr) → va_S A s.heap H1 locs1 → W p l e R s m args below meth c H1 locs1 0 0 Q (F0 m (pc + 3) ls (o.toList ++ rest))) : W p l e R s m args below meth c H locs 0 0 Q (F0 m pc ls st) := by
  have hF := bq_free hD hS hA hp
  intro T hT X
  obtain ⟨v, st₀, t, T', L, h0, X', hL, e1, e2, ⟨⟨hv, hP1, hD1⟩, hz, hk⟩, stp⟩ := hr T hT X
  cases hv
  rw [h0] at hz hk
  rw [← e1] at hP1 hz hk
  obtain ⟨hP2, hD2⟩ := bq_join hP hD hp hk hF hP1 hD1
  obtain ⟨t2, a1, b1⟩ := kk T'.heap (locs ++ L) hP2 hD2
    ⟨Nat.le_trans hS.1 hz, fun q h1 h2 => by rw [hk q (Nat.lt_of_lt_of_le h1 hS.1) (fun z => h2 (hF q z))]; exact hS.2.1 q h1 h2, fun q hq => by
      rcases List.mem_append.mp hq with h | h
      · exact hS.2.2 q h
      · exact hF _ (hL q h)⟩ T' rfl X'
  exact ⟨t2, stp t2 a1, b1⟩
theorem bq_pre (C : bq_C p R s m args meth c A D cl tys am cc nL own NF NL) (hP : va_P D cl W0 H) (hD : va_D A W0) (hS : va_S A s.heap H locs) (hp : W0.Perm (w ++ wr)) {As : List Value} {U : State} (hU : U.heap = H) (hW : s.WarmedH U.vm) : bq_P D cl tys am As w H.size As.toArray U := by
  obtain ⟨hx, hb, hown, hts, hml, hlocks, hA, hK, hm, -, -, hok⟩ := C
  refine ⟨rfl, by rw [hU], by rw [hU]; exact bq_PL (bq_Pp hp hP), va_K.moved hW.alike hK, (bq_DL (bq_Dp hp hD)).weaken (fun _ _ _ _ => trivial), ?_⟩
  exact hok.1 A _ s U H locs hm hS (bq_free hD hS hA hp) hU hW
theorem bq_callV {y : MethodName} {cn : String} {by' : ByteArray} {nY NF' NL' index n : Nat} {ret : Option FieldType} {b : Nat} {As : List Value} (C : bq_C p R s m args meth c A D cl tys am cc nL own NF NL) (hM : bq_M l y by' nY ret NF' NL' D cl tys am (.ref b :: As) w o w')
    (hG : GoodIn lw_all (wsV own index cn y (ws_ y by' nY ret))) (hd : y.cls = cn ∧ y.cls ≠ "java/lang/invoke/MethodHandle" ∧ y.cls ≠ "java/lang/invoke/VarHandle" ∧ (parseMethodDescriptor y.desc).map (fun d => d.parameters.length) = some n) (hNF : NF' + 1 ≤ NF) (hNL : 8 + (nY + 11) + NL' ≤ NL)
    (hrv : ∃ cellB : Cell, H[b]? = some cellB ∧ cellB.vm.isStatics = false ∧ s.vm.findClass cn = some cellB.cls) (hn : As.length = n) (hls : ls.size = nL) (hst : st = As.reverse ++ .ref b :: rest) (hc8 : (rest.map fun v => v.category).sum ≤ 8) (hdg : decode cc pc = .ok (.invokevirtual index, 3))
    (hP : va_P D cl W0 H) (hD : va_D A W0) (hS : va_S A s.heap H locs) (hp : W0.Perm (w ++ wr))
    (kk : ∀ (H1 : Heap) (locs1 : List Loc), va_P D cl (w' ++ wr) H1 → va_D A (w' ++ wr) → va_S A s.heap H1 locs1 → W p l e R s m args below meth c H1 locs1 0 0 Q (F0 m (pc + 3) ls (o.toList ++ rest))) : W p l e R s m args below meth c H locs 0 0 Q (F0 m pc ls st) := by
  have C0 := C
  obtain ⟨hx, hb, hown, hts, hml, hlocks, hA, hK, hm, hRf, hRl, hok⟩ := C
  exact bq_fin (va_runV (As := As) (rest := rest) ⟨hx, hb, hml, hown, hts⟩ (hM H.size) (cwV n hts hG rfl rfl rfl hd ⟨Nat.le_trans hNF hRf, Nat.le_trans hNL hRl⟩) ⟨bq_blind hok, hrv, fun U hU hW => bq_pre C0 hP hD hS hp hU hW⟩ rfl hn hls hst (lv_room hc8) hdg ⟨Nat.zero_le _, Nat.zero_le _⟩) hA hP hD hS hp kk
theorem bq_callS {y : MethodName} {by' : ByteArray} {nY NF' NL' index n : Nat} {ret : Option FieldType} {As : List Value} (C : bq_C p R s m args meth c A D cl tys am cc nL own NF NL) (hM : bq_M l y by' nY ret NF' NL' D cl tys am As w o w')
    (hG : GoodIn lw_all (va_wsS own index y (ws_ y by' nY ret))) (hd : y.cls ≠ "java/lang/invoke/MethodHandle" ∧ y.cls ≠ "java/lang/invoke/VarHandle" ∧ (parseMethodDescriptor y.desc).map (fun d => d.parameters.length) = some n) (hNF : NF' + 1 ≤ NF) (hNL : 8 + (nY + 11) + NL' ≤ NL)
    (hn : As.length = n) (hls : ls.size = nL) (hst : st = As.reverse ++ rest) (hc8 : (rest.map fun v => v.category).sum ≤ 8) (hdg : decode cc pc = .ok (.invokestatic index, 3))
    (hP : va_P D cl W0 H) (hD : va_D A W0) (hS : va_S A s.heap H locs) (hp : W0.Perm (w ++ wr))
    (kk : ∀ (H1 : Heap) (locs1 : List Loc), va_P D cl (w' ++ wr) H1 → va_D A (w' ++ wr) → va_S A s.heap H1 locs1 → W p l e R s m args below meth c H1 locs1 0 0 Q (F0 m (pc + 3) ls (o.toList ++ rest))) : W p l e R s m args below meth c H locs 0 0 Q (F0 m pc ls st) := by
  have C0 := C
  obtain ⟨hx, hb, hown, hts, hml, hlocks, hA, hK, hm, hRf, hRl, hok⟩ := C
  exact bq_fin (va_runS (As := As) (rest := rest) ⟨hx, hb, hml, hown, hts⟩ (hM H.size) (va_cwS n hts hG rfl rfl rfl hd ⟨Nat.le_trans hNF hRf, Nat.le_trans hNL hRl⟩) ⟨bq_blind hok, fun U hU hW => bq_pre C0 hP hD hS hp hU hW⟩ rfl hn hls hst (lv_room hc8) hdg ⟨Nat.zero_le _, Nat.zero_le _⟩) hA hP hD hS hp kk
end BQ1
theorem bq_pn {w : va_W} : w.Perm (w ++ []) := by rw [List.append_nil]
theorem bq_tope {p : Program} {l : Launch} {e : Env} {R : Room} {s : State} {m : MethodId} {args : Array Value} {below : List Frame} {meth : Method} {c : Code} {H : Heap} {locs : List Loc} {cells slots pc : Nat} {ls : Array Slot} {rest : List Value} {Q : State → Prop} {x y : Int32} (h : y = x) (k : W p l e R s m args below meth c H locs cells slots Q (F0 m pc ls (.int y :: rest))) : W p l e R s m args below meth c H locs cells slots Q (F0 m pc ls (.int x :: rest)) := h ▸ k
