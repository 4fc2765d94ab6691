/-! the dearest that are left, one by one; the cheapest that are freed -/
/-- the dearest that is left -/
def bsM (p : Nat → Nat) (av : Nat → Bool) : Nat → Option Nat
  | 0 => none
  | r + 1 => if av r then (match bsM p av r with
    | none => some r
    | some q => if p q < p r then some r else some q) else bsM p av r
theorem bsM_spec {p : Nat → Nat} {av : Nat → Bool} : ∀ {n : Nat}, (bsM p av n = none ∧ ∀ i, i < n → av i = false) ∨ ∃ q, bsM p av n = some q ∧ q < n ∧ av q = true ∧ ∀ i, i < n → av i = true → p i ≤ p q
  | 0 => Or.inl ⟨rfl, fun i h => absurd h (Nat.not_lt_zero _)⟩
  | n + 1 => by
    unfold bsM
    cases ha : av n with
    | false =>
      rw [if_neg (by decide)]
      rcases bsM_spec (p := p) (av := av) (n := n) with ⟨h1, h2⟩ | ⟨q, h1, h2, h3, h4⟩
      · refine Or.inl ⟨h1, fun i hi => ?_⟩
        by_cases e : i = n
        · rw [e]; exact ha
        · exact h2 i (by omega)
      · refine Or.inr ⟨q, h1, by omega, h3, fun i hi hq => ?_⟩
        by_cases e : i = n
        · rw [e, ha] at hq; cases hq
        · exact h4 i (by omega) hq
    | true =>
      rw [if_pos rfl]
      rcases bsM_spec (p := p) (av := av) (n := n) with ⟨h1, h2⟩ | ⟨q, h1, h2, h3, h4⟩
      · rw [h1]
        refine Or.inr ⟨n, rfl, by omega, ha, fun i hi hq => ?_⟩
        by_cases e : i = n
        · rw [e]; exact Nat.le_refl _
        · rw [h2 i (by omega)] at hq; cases hq
      · rw [h1]
        by_cases hl : p q < p n
        · refine Or.inr ⟨n, if_pos hl, by omega, ha, fun i hi hq => ?_⟩
          by_cases e : i = n
          · rw [e]; exact Nat.le_refl _
          · have := h4 i (by omega) hq
            omega
        · refine Or.inr ⟨q, if_neg hl, by omega, h3, fun i hi hq => ?_⟩
          by_cases e : i = n
          · rw [e]; omega
          · exact h4 i (by omega) hq
/-- who is taken behind k of them -/
def tkM (p : Nat → Nat) (us : Nat → Bool) (n : Nat) : Nat → Nat → Bool
  | 0, _ => false
  | k + 1, i => tkM p us n k i || decide (bsM p (fun j => us j && !tkM p us n k j) n = some i)
theorem tkM_spec {p : Nat → Nat} {us : Nat → Bool} {n : Nat} : ∀ {k : Nat}, k ≤ cnt us n → (∀ i, tkM p us n k i = true → us i = true ∧ i < n) ∧ cnt (tkM p us n k) n = k ∧ ∀ i j, i < n → j < n → tkM p us n k i = true → us j = true → tkM p us n k j = false → p j ≤ p i
  | 0, _ => ⟨fun i h => Bool.noConfusion h, ⟨cnt_z (fun i _ => rfl), fun i j _ _ h => Bool.noConfusion h⟩⟩
  | k + 1, hk => by
    obtain ⟨h1, h2, h3⟩ := tkM_spec (p := p) (us := us) (n := n) (k := k) (by omega)
    rcases bsM_spec (p := p) (av := fun j => us j && !tkM p us n k j) (n := n) with ⟨g1, g2⟩ | ⟨q, g1, g2, g3, g4⟩
    · exfalso
      have c1 := cnt_sp (P := us) (Q := tkM p us n k) n
      rw [cnt_z (P := fun i => us i && !tkM p us n k i) g2] at c1
      have : cnt (fun i => us i && tkM p us n k i) n ≤ cnt (tkM p us n k) n := cnt_imp (fun i h => (Bool.and_eq_true_iff.mp h).2) n
      omega
    · obtain ⟨gu, gt⟩ := Bool.and_eq_true_iff.mp g3
      have gt : tkM p us n k q = false := by simpa using gt
      have hst : ∀ i, tkM p us n (k + 1) i = (decide (i = q) || tkM p us n k i) := fun i => by
        show (tkM p us n k i || decide (bsM p (fun j => us j && !tkM p us n k j) n = some i)) = _
        rw [g1, Bool.or_comm]
        congr 1
        by_cases e : i = q
        · rw [e]; simp
        · have : ¬ q = i := fun z => e z.symm
          simp [e, this]
      refine ⟨fun i hi => ?_, ?_, fun i j hi hj t1 u1 t2 => ?_⟩
      · rw [hst] at hi
        rcases Bool.or_eq_true_iff.mp hi with z | z
        · rw [of_decide_eq_true z]; exact ⟨gu, g2⟩
        · exact h1 i z
      · rw [cnt_set (P := tkM p us n k) (s := q) hst gt n, h2, if_pos g2]
      · rw [hst] at t1 t2
        obtain ⟨t3, t4⟩ := Bool.or_eq_false_iff.mp t2
        rcases Bool.or_eq_true_iff.mp t1 with z | z
        · rw [of_decide_eq_true z]
          exact g4 j hj (by rw [u1, t4]; rfl)
        · exact h3 i j hi hj z u1 t4
