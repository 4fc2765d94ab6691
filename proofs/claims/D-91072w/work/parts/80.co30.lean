/-! the component: lists are found -/
section
variable {T : Mi} {t : Nat} {how : Int32}
theorem pk_min {r s q : Nat} (h : q < pkN T t how r s) : pkP T t how r s q = false := by
  have key : ∀ (P : Nat → Bool) (f a q : Nat), a ≤ q → q < runE P f a → P q = true := by
    intro P f
    induction f with
    | zero => intro a q h1 h2; unfold runE at h2; omega
    | succ f ih =>
      intro a q h1 h2
      unfold runE at h2
      cases hP : P a with
      | false => rw [hP] at h2; simp at h2; omega
      | true =>
        rw [hP] at h2
        by_cases e : q = a
        · rw [e]; exact hP
        · exact ih (a + 1) q (by omega) (by simpa using h2)
  have := key (fun y => !pkP T t how r s y) 1024 0 q (Nat.zero_le _) h
  simpa using this
/-- whether a set is the best, as the component asks it -/
theorem pk_bB (hI : Tok T) (ht : t < tn T) (hbe : bedsOk T t) (hpr : prOk T t) {r s q : Nat} (hr : r < rn T t) (hs : nd s (al T t) = 0) (hfin : ¬ LDI T t how (rn T t - r) s = FARn) : (decide (nd q s = 0) && decide (CV (fun r q => mbB T (10 * t + r) q (pn T)) (cpN T t how) (rn T t) (rn T t - (r + 1)) (nd s q) < FARc) && mbB T (10 * t + r) q (pn T) && decide (cpN T t how r q + CV (fun r q => mbB T (10 * t + r) q (pn T)) (cpN T t how) (rn T t) (rn T t - (r + 1)) (nd s q) = CV (fun r q => mbB T (10 * t + r) q (pn T)) (cpN T t how) (rn T t) (rn T t - r) s)) = pkP T t how r s q := by
  obtain ⟨wa, wb, α, β, hW⟩ := WOk_T hI ht hbe hpr how
  obtain ⟨k, hk⟩ : ∃ k, rn T t - r = k + 1 := ⟨rn T t - r - 1, by omega⟩
  have hk1 : rn T t - (r + 1) = k := by omega
  have hk2 : rn T t - (k + 1) = r := by omega
  unfold pkP
  rw [hk, hk1]
  by_cases hq : nd q s = 0
  · rw [hk] at hfin
    have := pk_same hW (k := k) (s := s) (q := q) (by omega) hs hfin hq
    rw [hk2] at this
    rw [decide_eq_true hq, Bool.true_and, Bool.and_true]
    cases hP : mP T t r q with
    | true =>
      rw [hP] at this
      by_cases hL : LDI T t how k (nd s q) = FARn
      · rw [decide_eq_true hL]
        have h1 : ¬ (CV (fun r q => mbB T (10 * t + r) q (pn T)) (cpN T t how) (rn T t) k (nd s q) < FARc ∧ mbB T (10 * t + r) q (pn T) = true ∧ cpN T t how r q + CV (fun r q => mbB T (10 * t + r) q (pn T)) (cpN T t how) (rn T t) k (nd s q) = CV (fun r q => mbB T (10 * t + r) q (pn T)) (cpN T t how) (rn T t) (k + 1) s) := fun z => (this.mpr z).2.1 hL
        by_cases c1 : CV (fun r q => mbB T (10 * t + r) q (pn T)) (cpN T t how) (rn T t) k (nd s q) < FARc
        · cases c2 : mbB T (10 * t + r) q (pn T) with
          | false => simp
          | true =>
            have c3 : ¬ cpN T t how r q + CV (fun r q => mbB T (10 * t + r) q (pn T)) (cpN T t how) (rn T t) k (nd s q) = CV (fun r q => mbB T (10 * t + r) q (pn T)) (cpN T t how) (rn T t) (k + 1) s := fun z => h1 ⟨c1, c2, z⟩
            simp [c3]
        · simp [c1]
      · rw [decide_eq_false hL]
        by_cases he : LDI T t how k (nd s q) + wN T t how r q = LDI T t how (k + 1) s
        · obtain ⟨c1, c2, c3⟩ := this.mp ⟨rfl, hL, he⟩
          have c2 : mbB T (10 * t + r) q (pn T) = true := c2
          rw [decide_eq_true he, decide_eq_true c1, c2, decide_eq_true c3]
          rfl
        · rw [decide_eq_false he]
          by_cases c1 : CV (fun r q => mbB T (10 * t + r) q (pn T)) (cpN T t how) (rn T t) k (nd s q) < FARc
          · cases c2 : mbB T (10 * t + r) q (pn T) with
            | false => simp
            | true =>
              have c3 : ¬ cpN T t how r q + CV (fun r q => mbB T (10 * t + r) q (pn T)) (cpN T t how) (rn T t) k (nd s q) = CV (fun r q => mbB T (10 * t + r) q (pn T)) (cpN T t how) (rn T t) (k + 1) s := fun z => he (this.mpr ⟨c1, c2, z⟩).2.2
              simp [c3]
          · simp [c1]
    | false =>
      have hm : mbB T (10 * t + r) q (pn T) = false := by
        cases c2 : mbB T (10 * t + r) q (pn T) with
        | false => rfl
        | true =>
          have : mP T t r q = true := by unfold mP; rw [decide_eq_true (nd_tr hq hs)]; exact c2
          rw [hP] at this
          cases this
      simp [hm]
  · rw [decide_eq_false hq]
    simp
theorem CV_0 (s : Nat) (F : Nat → Nat → Bool) (C : Nat → Nat → Nat) (n : Nat) : CV F C n 0 s = if s = 0 then 0 else FARc := rfl
end
theorem CoR_84 {K : Ly} {S : Sh} {I I' T : Mi} (h : CoR K S I T) (hi : ∀ a, a ≠ 84 → I' a = I a) : CoR K S I' T := by
  have hC := cr_S h
  refine CoR_fx h (fun a ha => hi a (by omega)) (fun a ha => hi a (fun e => ?_)) (fun _ _ => rfl) rfl rfl ?_ (coNo_k (cr_no h) ⟨hi _ (by decide), hi _ (by decide), hi _ (by decide), hi _ (by decide)⟩ rfl ⟨rfl, rfl, rfl⟩) (coTp_k (cr_tp h) (hi _ (by decide)) rfl rfl) (coBk_k (cr_bk h) (fun a q1 q2 => hi a (by omega)) ⟨rfl, rfl, rfl⟩) (coTr_k (cr_tr h) (fun a q1 q2 => hi a (by omega)) (fun _ _ => rfl))
  · rw [e, coA_fresh hC] at ha
    exact ni_100 ha
  · have := h.2.1
    unfold coSc at this ⊢
    rw [hi 0 (by decide)]
    exact this
section Co30
variable {w : Wd} {l : Launch} {K : Ly} {S : Sh} {I T : Mi} {J : Ml}
theorem kX1_noteX (hR : CoR K S I T) (hI : Tok T) {t p : Nat} {room : Int32} (ht : t < tn T) (hp : p < 10) (hn : nn T < 500) : Ct w l yX1_note cX1_note 4 none 1 0 0 [.ref 0, .int (nI t), .int (nI p), .int room] S I J (Qv (cnS K I t p (nn T) room (T 473 14) (T 473 26 + nI 1)) S J) := by
  have hne := (ap_tf hR (a := 0) ht (by decide)).2
  obtain ⟨M, hM⟩ : ∃ M, M = sto I (ta K t + 2) p room := ⟨_, rfl⟩
  have hm : ∀ {i : Nat} {v : Int32}, I 0 i = v → M 0 i = v := by
    intro i v h
    rw [hM, sto_n _ _ _ (Ne.symm hne)]
    exact h
  refine Ct.of [some _, some _, some _, some _] rfl (Nat.le_of_ble_eq_true rfl) (by decide) ?_
  intro κ hκ C
  subst hκ
  have hC := cr_S hR
  have hp10 := tk_p2 hI
  have ht6 := tk_t2 hI
  have hg30 := tk_g2 hI
  have hc30 := tk_c2 hI
  have hn500 := tk_n2 hI
  refine x_aloadr_n C dX1_note_0 1 rfl rfl ?_
  refine x_getr C fl_X1_17 (Or.inr ⟨_, rfl⟩) dX1_note_1 4 rfl hC.1 (coR_towns hC) ?_
  refine x_iload_n C dX1_note_4 5 rfl rfl ?_
  refine x_aaldr (t := 5) C dX1_note_5 6 rfl (coA_towns hC) (by decide) (coN_towns hC) rfl (by omega) (by decide) (ct_elt hR ht) ?_
  refine x_getr C fl_X1_148 (Or.inr ⟨_, rfl⟩) dX1_note_6 9 rfl (ct_T hR ht) (ct_list hR ht) ?_
  refine x_iload_n C dX1_note_9 10 rfl rfl ?_
  refine x_iload_n C dX1_note_10 11 rfl rfl ?_
  refine x_iast C dX1_note_11 12 rfl (ct_listA hR ht) (ct_listN hR ht) rfl (by omega) (by decide) ?_
  rw [← hM]
  refine x_aloadr_n C dX1_note_12 13 rfl rfl ?_
  refine x_getr C fl_X1_28 (Or.inr ⟨_, rfl⟩) dX1_note_13 16 rfl hC.1 (coR_noteTown hC) ?_
  refine x_aloadr_n C dX1_note_16 17 rfl rfl ?_
  refine x_geti C fl_X1_151 (Or.inl rfl) dX1_note_17 20 rfl hC.1 (hm ((cs_noteMany hR).trans (tk_n hI))) ?_
  refine x_iload_n C dX1_note_20 21 rfl rfl ?_
  refine x_iast C dX1_note_21 22 rfl (coA_noteTown hC) (coN_noteTown hC) rfl (by omega) (by decide) ?_
  refine x_aloadr_n C dX1_note_22 23 rfl rfl ?_
  refine x_getr C fl_X1_32 (Or.inr ⟨_, rfl⟩) dX1_note_23 26 rfl hC.1 (coR_notePerson hC) ?_
  refine x_aloadr_n C dX1_note_26 27 rfl rfl ?_
  refine x_geti C fl_X1_151 (Or.inl rfl) dX1_note_27 30 rfl hC.1 (hm ((cs_noteMany hR).trans (tk_n hI))) ?_
  refine x_iload_n C dX1_note_30 31 rfl rfl ?_
  refine x_iast C dX1_note_31 32 rfl (coA_notePerson hC) (coN_notePerson hC) rfl (by omega) (by decide) ?_
  refine x_aloadr_n C dX1_note_32 33 rfl rfl ?_
  refine x_getr C fl_X1_35 (Or.inr ⟨_, rfl⟩) dX1_note_33 36 rfl hC.1 (coR_noteRoom hC) ?_
  refine x_aloadr_n C dX1_note_36 37 rfl rfl ?_
  refine x_geti C fl_X1_151 (Or.inl rfl) dX1_note_37 40 rfl hC.1 (hm ((cs_noteMany hR).trans (tk_n hI))) ?_
  refine x_iload_n C dX1_note_40 41 rfl rfl ?_
  refine x_iast C dX1_note_41 42 rfl (coA_noteRoom hC) (coN_noteRoom hC) rfl (by omega) (by decide) ?_
  refine x_aloadr_n C dX1_note_42 43 rfl rfl ?_
  refine x_getr C fl_X1_38 (Or.inr ⟨_, rfl⟩) dX1_note_43 46 rfl hC.1 (coR_noteDay hC) ?_
  refine x_aloadr_n C dX1_note_46 47 rfl rfl ?_
  refine x_geti C fl_X1_151 (Or.inl rfl) dX1_note_47 50 rfl hC.1 (hm ((cs_noteMany hR).trans (tk_n hI))) ?_
  refine x_aloadr_n C dX1_note_50 51 rfl rfl ?_
  refine x_geti C fl_X1_154 (Or.inl rfl) dX1_note_51 54 rfl hC.1 (hm (cs_day hR)) ?_
  refine x_iast C dX1_note_54 55 rfl (coA_noteDay hC) (coN_noteDay hC) rfl (by omega) (by decide) ?_
  refine x_aloadr_n C dX1_note_55 56 rfl rfl ?_
  refine x_dup C dX1_note_56 57 rfl rfl ?_
  refine x_geti C fl_X1_151 (Or.inl rfl) dX1_note_57 60 rfl hC.1 (hm (cs_noteMany hR)) ?_
  refine x_ic (j := 1) C dX1_note_60 61 rfl ?_
  refine x_iadd C dX1_note_61 62 rfl rfl ?_
  refine x_puti C fl_X1_151 (Or.inl rfl) (Or.inl rfl) dX1_note_62 65 rfl hC.1 ?_
  exact x_vret C dX1_note_65 (Nat.le_refl _) (Nat.le_refl _) (Qv_of (by unfold cnS; rw [← hM]))
end Co30
