/-! the dearest of some, the cheapest of some: plain -/
def smP (P : Nat → Bool) (p : Nat → Nat) : Nat → Nat
  | 0 => 0
  | n + 1 => smP P p n + (if P n = true then p n else 0)
theorem smP_c {P Q : Nat → Bool} {p : Nat → Nat} : ∀ {n : Nat}, (∀ i, i < n → P i = Q i) → smP P p n = smP Q p n
  | 0, _ => rfl
  | n + 1, h => by rw [smP, smP, smP_c (fun i hi => h i (by omega)), h n (by omega)]
theorem smP_add {P Q : Nat → Bool} {p : Nat → Nat} : ∀ n, smP P p n = smP (fun i => P i && Q i) p n + smP (fun i => P i && !Q i) p n
  | 0 => rfl
  | n + 1 => by
    rw [smP, smP, smP, smP_add (Q := Q) n]
    cases P n <;> cases Q n <;> simp <;> omega
theorem smP_k {P : Nat → Bool} {p : Nat → Nat} {c : Nat} : ∀ {n : Nat}, (∀ i, i < n → P i = true → p i = c) → smP P p n = c * cnt P n
  | 0, _ => rfl
  | n + 1, h => by
    rw [smP, smP_k (fun i hi => h i (by omega))]
    cases e : P n with
    | true => rw [cnt_t e, if_pos rfl, h n (by omega) e, Nat.mul_succ]
    | false => rw [cnt_f e]; simp
theorem cnt_sp {P Q : Nat → Bool} : ∀ n, cnt P n = cnt (fun i => P i && Q i) n + cnt (fun i => P i && !Q i) n := cnt_add (fun i => by cases P i <;> cases Q i <;> rfl) (fun i => by cases P i <;> cases Q i <;> rfl)
/-- two sets of as many, each of the dearest -/
theorem top_eq {A B : Nat → Bool} {p : Nat → Nat} {n : Nat} (hc : cnt A n = cnt B n) (h : ∀ i j, i < n → j < n → A i = true → B i = false → B j = true → A j = false → p i = p j) : smP A p n = smP B p n := by
  have c1 := cnt_sp (P := A) (Q := B) n
  have c2 := cnt_sp (P := B) (Q := A) n
  have e1 : cnt (fun i => B i && A i) n = cnt (fun i => A i && B i) n := cnt_c (fun i _ => Bool.and_comm _ _)
  have s1 := smP_add (P := A) (Q := B) (p := p) n
  have s2 := smP_add (P := B) (Q := A) (p := p) n
  have e2 : smP (fun i => B i && A i) p n = smP (fun i => A i && B i) p n := smP_c (fun i _ => Bool.and_comm _ _)
  by_cases h0 : cnt (fun i => A i && !B i) n = 0
  · have h1 : cnt (fun i => B i && !A i) n = 0 := by omega
    have z1 : smP (fun i => A i && !B i) p n = 0 := by rw [smP_k (c := 0) (fun i hi q => by rw [cnt_0 h0 i hi] at q; cases q)]; simp
    have z2 : smP (fun i => B i && !A i) p n = 0 := by rw [smP_k (c := 0) (fun i hi q => by rw [cnt_0 h1 i hi] at q; cases q)]; simp
    omega
  · have hA : ∃ i, i < n ∧ A i = true ∧ B i = false := Classical.byContradiction fun q => h0 (cnt_z (fun i hi => by
      cases ha : A i with
      | false => rfl
      | true =>
        cases hb : B i with
        | true => rfl
        | false => exact absurd ⟨i, hi, ha, hb⟩ q))
    have hB : ∃ j, j < n ∧ B j = true ∧ A j = false := Classical.byContradiction fun q => (show ¬ cnt (fun i => B i && !A i) n = 0 by omega) (cnt_z (fun i hi => by
      cases hb : B i with
      | false => rfl
      | true =>
        cases ha : A i with
        | true => rfl
        | false => exact absurd ⟨i, hi, hb, ha⟩ q))
    obtain ⟨i0, hi0, ha0, hb0⟩ := hA
    obtain ⟨j0, hj0, hb1, ha1⟩ := hB
    have z1 : smP (fun i => A i && !B i) p n = p j0 * cnt (fun i => A i && !B i) n := smP_k (fun i hi q => by
      obtain ⟨q1, q2⟩ := Bool.and_eq_true_iff.mp q
      exact h i j0 hi hj0 q1 (by simpa using q2) hb1 ha1)
    have z2 : smP (fun i => B i && !A i) p n = p j0 * cnt (fun i => B i && !A i) n := smP_k (fun j hj q => by
      obtain ⟨q1, q2⟩ := Bool.and_eq_true_iff.mp q
      rw [← h i0 j hi0 hj ha0 hb0 q1 (by simpa using q2)]
      exact h i0 j0 hi0 hj0 ha0 hb0 hb1 ha1)
    have : cnt (fun i => A i && !B i) n = cnt (fun i => B i && !A i) n := by omega
    rw [this] at z1
    omega
