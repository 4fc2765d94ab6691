/-! the component: losses, day by day -/
/-- what a reckoning of losses leaves as it was -/
def lqM (I M : Mi) : Prop := (∀ a, a ≠ 0 → a ≠ 8 → ¬ (86 ≤ a ∧ a ≤ 457) → M a = I a) ∧ (∀ i, i ≠ 25 → M 0 i = I 0 i)
theorem lo_tag {S : Sh} (hC : coS S) {a : Nat} (h : 86 ≤ a ∧ a ≤ 457) : S.1 a = 108 ∨ S.1 a = 100 := by
  obtain ⟨i, j, hi, hj, e⟩ : ∃ i j, i < 31 ∧ j < 12 ∧ a = 86 + 12 * i + j := ⟨(a - 86) / 12, (a - 86) % 12, by omega, by omega, by omega⟩
  by_cases h0 : j = 0
  · left
    rw [e, h0, Nat.add_zero]
    exact (hC.2.2.2.2.2.1 i hi).2.1
  · right
    have := (hC.2.2.2.2.2.2.1 i (j - 1) hi (by omega)).2.1
    rw [show 87 + 12 * i + (j - 1) = a by omega] at this
    exact this
theorem CoR_lq {K : Ly} {S : Sh} {I M T : Mi} (h : CoR K S I T) (hM : lqM I M) : CoR K S M T := by
  have hC := cr_S h
  have h1 : CoR K S (wr (wr M 0 (I 0)) 8 (I 8)) T := by
    have hi : ∀ a, ¬ (86 ≤ a ∧ a ≤ 457) → wr (wr M 0 (I 0)) 8 (I 8) a = I a := fun a ha => by
      by_cases h8 : a = 8
      · rw [h8, wr_s]
      · rw [wr_n _ _ h8]
        by_cases h0 : a = 0
        · rw [h0, wr_s]
        · rw [wr_n _ _ h0, hM.1 a h0 h8 ha]
    refine CoR_fx h (fun a ha => hi a (by omega)) (fun a ha => hi a (fun q => ?_)) (fun _ _ => rfl) rfl rfl ?_ (coNo_k (cr_no h) ⟨hi _ (by decide), hi _ (by decide), hi _ (by decide), hi _ (by decide)⟩ rfl ⟨rfl, rfl, rfl⟩) (coTp_k (cr_tp h) (hi _ (by decide)) rfl rfl) (coBk_k (cr_bk h) (fun a q1 q2 => hi a (by omega)) ⟨rfl, rfl, rfl⟩) (coTr_k (cr_tr h) (fun a q1 q2 => hi a (by omega)) (fun _ _ => rfl))
    · rcases lo_tag hC q with e | e
      · rw [e] at ha
        exact absurd ha (by unfold immT; omega)
      · rw [e] at ha
        exact ni_100 ha
    · have := h.2.1
      unfold coSc at this ⊢
      rw [hi 0 (by decide)]
      exact this
  have h2 : CoR K S (wr M 0 (I 0)) T := CoR_8 h1 (fun a ha => (wr_n _ _ ha).symm)
  have h3 := CoR_25 h2 (M 0 25)
  have : M = sto (wr M 0 (I 0)) 0 25 (M 0 25) := by
    funext a i
    rw [sto_at]
    by_cases h0 : a = 0
    · subst h0
      by_cases hi : i = 25
      · subst hi
        simp
      · rw [if_neg (fun q => hi q.2), wr_s]
        exact hM.2 i hi
    · rw [if_neg (fun q => h0 q.1), wr_n _ _ h0]
  rw [this]
  exact h3
