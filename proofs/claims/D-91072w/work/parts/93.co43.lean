/-! the cheapest that are freed; both bills are the same -/
section
variable {p : Nat → Int32} {pN : Nat → Nat} {n : Nat}
theorem bst_spec (hp : ∀ r, r < n → p r = nI (pN r) ∧ pN r < 2 ^ 31) {fr : Nat → Bool} : ∀ {m : Nat}, m ≤ n → (bst p fr m = none ∧ ∀ i, i < m → fr i = true) ∨ ∃ q, bst p fr m = some q ∧ q < m ∧ fr q = false ∧ ∀ i, i < m → fr i = false → pN q ≤ pN i
  | 0, _ => Or.inl ⟨rfl, fun i h => absurd h (Nat.not_lt_zero _)⟩
  | m + 1, hm => by
    unfold bst
    cases ha : fr m with
    | true =>
      rw [if_pos rfl]
      rcases bst_spec hp (fr := fr) (m := m) (by omega) with ⟨h1, h2⟩ | ⟨q, h1, h2, h3, h4⟩
      · refine Or.inl ⟨h1, fun i hi => ?_⟩
        by_cases e : i = m
        · rw [e]; exact ha
        · exact h2 i (by omega)
      · refine Or.inr ⟨q, h1, by omega, h3, fun i hi hq => ?_⟩
        by_cases e : i = m
        · rw [e, ha] at hq; cases hq
        · exact h4 i (by omega) hq
    | false =>
      rw [if_neg (by decide)]
      rcases bst_spec hp (fr := fr) (m := m) (by omega) with ⟨h1, h2⟩ | ⟨q, h1, h2, h3, h4⟩
      · rw [h1]
        refine Or.inr ⟨m, rfl, by omega, ha, fun i hi hq => ?_⟩
        by_cases e : i = m
        · rw [e]; exact Nat.le_refl _
        · rw [h2 i (by omega)] at hq; cases hq
      · rw [h1]
        have hlt : (p m < p q) = (pN m < pN q) := by rw [(hp m (by omega)).1, (hp q (by omega)).1]; exact nI_ltE (hp m (by omega)).2 (hp q (by omega)).2
        by_cases hl : p m < p q
        · have hl2 : pN m < pN q := by rw [← hlt]; exact hl
          refine Or.inr ⟨m, if_pos hl, by omega, ha, fun i hi hq => ?_⟩
          by_cases e : i = m
          · rw [e]; exact Nat.le_refl _
          · have := h4 i (by omega) hq
            omega
        · have hl2 : ¬ pN m < pN q := by rw [← hlt]; exact hl
          refine Or.inr ⟨q, if_neg hl, by omega, h3, fun i hi hq => ?_⟩
          by_cases e : i = m
          · rw [e]; omega
          · exact h4 i (by omega) hq
theorem frI_spec (hp : ∀ r, r < n → p r = nI (pN r) ∧ pN r < 2 ^ 31) {fr : Nat → Bool} : ∀ {k : Nat}, k ≤ cnt (fun i => !fr i) n → (∀ i, fr i = true → frI p n fr k i = true) ∧ cnt (fun i => frI p n fr k i && !fr i) n = k ∧ ∀ i j, i < n → j < n → frI p n fr k i = true → fr i = false → frI p n fr k j = false → pN i ≤ pN j
  | 0, _ => ⟨fun i h => h, ⟨cnt_z (fun i _ => by show (fr i && !fr i) = false; cases fr i <;> rfl), fun i j _ _ h1 h2 => by rw [show frI p n fr 0 i = fr i from rfl, h2] at h1; cases h1⟩⟩
  | k + 1, hk => by
    obtain ⟨h1, h2, h3⟩ := frI_spec hp (fr := fr) (k := k) (by omega)
    rcases bst_spec hp (fr := frI p n fr k) (m := n) (Nat.le_refl _) with ⟨g1, g2⟩ | ⟨q, g1, g2, g3, g4⟩
    · exfalso
      have : cnt (fun i => !fr i) n ≤ cnt (fun i => frI p n fr k i && !fr i) n := Nat.le_of_eq (cnt_c (fun i hi => by rw [g2 i hi, Bool.true_and]))
      omega
    · have gf : fr q = false := by
        cases e : fr q with
        | false => rfl
        | true => rw [h1 q e] at g3; cases g3
      have hst : ∀ i, frI p n fr (k + 1) i = (decide (i = q) || frI p n fr k i) := fun i => by
        show frS p n (frI p n fr k) i = _
        unfold frS
        rw [g1]
      refine ⟨fun i hi => by rw [hst, h1 i hi, Bool.or_true], ?_, fun i j hi hj t1 t2 t3 => ?_⟩
      · rw [cnt_set (P := fun i => frI p n fr k i && !fr i) (s := q) (fun i => ?_) (by rw [g3]; rfl) n, h2, if_pos g2]
        rw [hst]
        by_cases e : i = q
        · rw [e, gf]; simp
        · simp [e]
      · rw [hst] at t1 t3
        obtain ⟨t4, t5⟩ := Bool.or_eq_false_iff.mp t3
        rcases Bool.or_eq_true_iff.mp t1 with z | z
        · rw [of_decide_eq_true z]
          exact g4 j hj t5
        · exact h3 i j hi hj z t2 t5
/-- the bill both ways -/
theorem bill_eq (hp : ∀ r, r < n → p r = nI (pN r) ∧ pN r < 2 ^ 31) {fr : Nat → Bool} {f : Nat} (hf : f ≤ cnt (fun i => !fr i) n) : smP (fun i => !frI p n fr f i) pN n = smP (tkM pN (fun i => !fr i) n (cnt (fun i => !fr i) n - f)) pN n := by
  obtain ⟨a1, a2, a3⟩ := frI_spec hp (fr := fr) hf
  obtain ⟨b1, b2, b3⟩ := tkM_spec (p := pN) (us := fun i => !fr i) (n := n) (k := cnt (fun i => !fr i) n - f) (by omega)
  refine top_eq ?_ (fun i j hi hj q1 q2 q3 q4 => ?_)
  · rw [b2]
    have c := cnt_sp (P := fun i => !fr i) (Q := frI p n fr f) n
    have e1 : cnt (fun i => !fr i && frI p n fr f i) n = f := (cnt_c (fun i _ => Bool.and_comm (!fr i) (frI p n fr f i))).trans a2
    have e2 : cnt (fun i => !fr i && !frI p n fr f i) n = cnt (fun i => !frI p n fr f i) n := cnt_c (fun i _ => by
      cases e : fr i with
      | false => rfl
      | true => rw [a1 i e]; rfl)
    rw [e1, e2] at c
    omega
  · have f1 : frI p n fr f i = false := by simpa using q1
    have f2 : frI p n fr f j = true := by simpa using q4
    have u1 : fr i = false := by
      cases e : fr i with
      | false => rfl
      | true => rw [a1 i e] at f1; cases f1
    have u2 : fr j = false := by simpa using (b1 j q3).1
    have h1 := a3 j i hj hi f2 u2 f1
    have h2 := b3 j i hj hi q3 (by rw [u1]; rfl) q2
    omega
end
