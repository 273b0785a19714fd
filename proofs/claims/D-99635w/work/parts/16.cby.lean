set_option maxRecDepth 100000
theorem both_act (act : Int32) (f1 f2 : (Nat → Int32) → Int32) (ν : bqS) : both_by act f1 f2 ν = some (bq_act act (f1 (ν 1)) (f2 (ν 1))) := by
  unfold both_by bq_lt bq_act bq_nz
  generalize f1 (ν 1) = a
  generalize f2 (ν 1) = b
  by_cases h1 : act = 43
  · subst h1; simp
  by_cases h2 : act = 45
  · subst h2; simp
  by_cases h3 : act = 42
  · subst h3; simp
  by_cases h4 : act = 47
  · subst h4
    by_cases hb : b = 0 <;> simp [hb]
  by_cases h5 : act = 60
  · subst h5
    by_cases hb : b ≤ a
    · have hb2 : ¬ a < b := Int32.not_lt.mpr hb
      simp [hb, hb2]
    · have hb2 : a < b := Int32.not_le.mp hb
      simp [hb, hb2]
  by_cases h6 : act = 61
  · subst h6
    by_cases hb : a = b <;> simp [hb]
  by_cases h7 : act = 38
  · subst h7
    by_cases ha : a = 0 <;> by_cases hb : b = 0 <;> simp [ha, hb]
  simp only [h1, h2, h3, h4, h5, h6, h7, if_false]
  by_cases ha : a = 0 <;> by_cases hb : b = 0 <;> simp [ha, hb]
theorem exq_mono {P : va_W} {vE : Nat → Nat} : ∀ (N : Nat) (f : (Nat → Int32) → Int32) (q : Nat), exq P vE N f q → exq P vE (N + 1) f q := by
  intro N
  induction N with
  | zero => intro f q h; exact h.elim
  | succ N ih =>
    intro f q h
    rcases h with h | h | ⟨q1, f1, h1, h2, h3⟩ | ⟨act, q1, q2, f1, f2, h1, h2, h3, h4⟩
    · exact Or.inl h
    · exact Or.inr (Or.inl h)
    · exact Or.inr (Or.inr (Or.inl ⟨q1, f1, h1, ih _ _ h2, h3⟩))
    · exact Or.inr (Or.inr (Or.inr ⟨act, q1, q2, f1, f2, h1, ih _ _ h2, ih _ _ h3, h4⟩))
theorem exq_le {P : va_W} {vE : Nat → Nat} {N M : Nat} (h : N ≤ M) {f : (Nat → Int32) → Int32} {q : Nat} (hq : exq P vE N f q) : exq P vE M f q := by
  induction h with
  | refl => exact hq
  | step _ ih => exact exq_mono _ _ _ ih
theorem bq_by_all {l : Launch} {D : va_G} {am : bqAm} {d : Nat → ClassId} {ca X vE sE : Nat → Nat} {P : va_W} (hok : bq_Ok am) (hamb : bq_Amb am X vE sE) : ∀ N : Nat, bq_By l D am d ca vE P N := by
  intro N
  induction N with
  | zero => intro ν f q h; exact h.elim
  | succ N ih =>
    intro ν f q h
    have hm : ∀ x ∈ P, x ∈ List.flatten ([viB d ca ν, P] : List va_W) := fun x hx => by simp [hx]
    rcases h with ⟨n, h1, rfl⟩ | ⟨i, hi6, h1, rfl⟩ | ⟨q1, f1, h1, h2, rfl⟩ | ⟨act, q1, q2, f1, f2, h1, h2, h3, rfl⟩
    · obtain ⟨i0, hi⟩ := List.getElem?_of_mem (hm _ h1)
      exact ⟨RX11, yX11_by, cX11_by, 2, 8, _, (RX11, TX11, 1), by decide, h1, rfl, rfl, q914, q910, q145, q911, met_told_by (n0 := n) hok hamb hi ⟨by omega, by omega⟩ rfl⟩
    · obtain ⟨i0, hi⟩ := List.getElem?_of_mem (hm _ h1)
      refine ⟨RX12, yX12_by, cX12_by, 2, 9, _, (RX12, TX12, 1), by decide, h1, rfl, rfl, q913, q907, q146, q908, ?_⟩
      refine met_seen_by (j0 := i) hok hamb hi hi6 ⟨by omega, by omega⟩ ?_
      have e : (Int32.ofNat i).toNatClampNeg = i := nI_clamp (by omega)
      have hck : (0 ≤ (Int32.ofNat i).toInt ∧ (Int32.ofNat i).toInt < ((6 : Nat) : Int)) := by
        have := nI_toInt (n := i) (by omega)
        unfold nI at this
        rw [this]
        omega
      unfold seen_by bq_ck
      rw [if_pos hck, e]
    · obtain ⟨i0, hi⟩ := List.getElem?_of_mem (hm _ h1)
      refine ⟨RX14, yX14_by, cX14_by, 2, 11, _, (RX14, TX14, 1), by decide, h1, rfl, rfl, q912, q904, q148, q905, ?_⟩
      refine met_not_by (f1 := f1) (N0 := N) hok hamb hi h2 ih ⟨by omega, by omega⟩ ?_
      unfold not_by
      by_cases hz : f1 (ν 1) = 0
      · rw [if_pos hz]; simp [hz]
      · rw [if_neg hz]; simp [hz]
    · obtain ⟨i0, hi⟩ := List.getElem?_of_mem (hm _ h1)
      refine ⟨RX13, yX13_by, cX13_by, 4, 10, _, (RX13, TX13, 3), by decide, h1, rfl, rfl, q900, q901, q147, q902, ?_⟩
      exact met_both_by (act := act) (f1 := f1) (f2 := f2) (N0 := N) hok hamb hi h2 h3 ih ⟨by omega, by omega⟩ (both_act act f1 f2 ν)
