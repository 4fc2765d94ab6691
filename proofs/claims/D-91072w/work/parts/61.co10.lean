/-! the component: people's changes -/
def BrOk (T : Mi) : Prop := ∀ a b, a < 10 → b < 10 → (T 482 (10 * a + b) = 0 ∨ T 482 (10 * a + b) = nI 1) ∧ T 482 (10 * a + b) = T 482 (10 * b + a)
section
variable {K : Ly} {S S' : Sh} {I I' T T' : Mi}
theorem CoR_pq (P : Nat → Prop) (h : CoR K S I T) (hs : S'.1 = S.1 ∧ S'.2.1 = S.2.1 ∧ S'.2.2.2 = S.2.2.2) (hr : ∀ a, (∀ p, p < pn T → P p → a ≠ pa K p) → S'.2.2.1 a = S.2.2.1 a ∧ I' a = I a) (ht : ∀ b, b ∉ [474, 475, 476, 477, 478, 479, 480, 481, 482, 497] → T' b = T b) (hq : ∀ b q, ¬ P q → b ∈ [474, 475, 476, 477, 478, 479, 480, 481, 497] → T' b q = T b q) (hb : ∀ q j, ¬ P q → j < 10 → T' 482 (10 * q + j) = T 482 (10 * q + j)) (hpe : ∀ p, p < pn T → P p → perR K S' I' T' p) : CoR K S' I' T' := by
  refine CoR_pp h hs (fun a ha => hr a (fun p hp _ e => ?_)) ht (fun p hp => ?_)
  · subst e
    rcases ha with ha | ha
    · exact absurd ha (by have := ((cr_ly h).2.2.2.1 p hp).1; omega)
    · exact ha (cp_T h hp)
  · by_cases hP : P p
    · exact hpe p hp hP
    · have h1 := hr 1 (fun q hq _ => (Ne.symm (ap_pf h hq (by decide))))
      have h2 := hr (pa K p) (fun q hq hPq e => hP (by rw [(cr_ly h).1 p q hp hq e]; exact hPq))
      have h481 := hq 481 p hP (by decide)
      refine perR_g (cr_pe h hp) rfl (by unfold frR; rw [h481]) (by rw [h1.1]) ⟨by rw [hs.1], by rw [hs.2.1], h2.1, h2.2⟩ (fun b hb => hq b p hP ?_) (fun q hq => hb p q hP hq)
      simp only [List.mem_cons, List.not_mem_nil, or_false] at hb ⊢
      omega
theorem CoR_stay (h : CoR K S I T) {p : Nat} (hp : p < pn T) (fr tt : Int32) : CoR K S (sto (sto I (pa K p) 5 fr) (pa K p) 6 tt) (sto (sto T 478 p fr) 479 p tt) := by
  refine CoR_pq (· = p) h ⟨rfl, rfl, rfl⟩ (fun a ha => ⟨rfl, ?_⟩) (fun b hb => ?_) (fun b q hP hb => ?_) (fun q j hP hj => rfl) (fun q hq e => ?_)
  · rw [sto_n _ _ _ (ha p hp rfl), sto_n _ _ _ (ha p hp rfl)]
  · simp only [List.mem_cons, List.not_mem_nil, or_false] at hb
    rw [sto_n _ _ _ (by omega), sto_n _ _ _ (by omega)]
  · rw [sto_at, sto_at, if_neg (fun e => hP e.2), if_neg (fun e => hP e.2)]
  · have e : q = p := e
    subst e
    have e : ∀ i, sto (sto I (pa K q) 5 fr) (pa K q) 6 tt (pa K q) i = if i = 6 then tt else if i = 5 then fr else I (pa K q) i := by
      intro i
      rw [sto_at, sto_at]
      simp
    have e8 : sto (sto T 478 q fr) 479 q tt 478 q = fr := by rw [sto_at, sto_at]; simp
    have e9 : sto (sto T 478 q fr) 479 q tt 479 q = tt := by rw [sto_at]; simp
    obtain ⟨g1, g2, g3, g4, g5, g6, g7, g8, g9, g10, g11, g12, g13⟩ := cr_pe h hq
    unfold perR
    rw [e8, e9]
    simp only [e]
    exact ⟨g1, g2, g3, g4, g5, g6, g7, rfl, rfl, g10, g11, g12, g13⟩
end
section Co10
variable {w : Wd} {l : Launch} {K : Ly} {S : Sh} {I T : Mi} {J : Ml}
theorem kX1_stays (hR : CoR K S I T) (hI : Tok T) {p fr tt : Int32} : Ct w l yX1_stays cX1_stays 4 (some .boolean) 4 0 0 [.ref 0, .int p, .int fr, .int tt] S I J (Qp (sp_stays T p fr tt) S I J 0) := by
  refine Ct.of [some _, some _, some _, some _] rfl (Nat.le_of_ble_eq_true rfl) (by decide) ?_
  intro κ hκ C
  subst hκ
  have hC := cr_S hR
  have hp10 := tk_p2 hI
  have ht6 := tk_t2 hI
  have hg30 := tk_g2 hI
  have hc30 := tk_c2 hI
  have hn500 := tk_n2 hI
  refine x_aloadr_n C dX1_stays_0 1 rfl rfl ?_
  refine x_iload_n C dX1_stays_1 2 rfl rfl ?_
  refine x_callV C lk_X1_134 dX1_stays_2 5 rfl [_] [] rfl rfl hC.1 (Nat.le_of_ble_eq_true rfl) (by decide) (Nat.le_refl _) (Nat.le_refl _) (kX1_isPerson hR) ?_
  rintro _ _ _ _ ⟨rfl, rfl, rfl, rfl⟩
  refine x_ifeqZ C dX1_stays_5 8 49 rfl (by decide) (fun h5 => ?_) (fun h5 => ?_)
  · refine x_ic (j := 0) C dX1_stays_49 50 rfl ?_
    exact x_zret C dX1_stays_50 (Nat.le_refl _) (Nat.le_refl _) rfl (Qp_n hR (by simp [sp_stays, no0, h5]))
  · obtain ⟨p, hp, rfl⟩ := pe_I hI h5
    have ep : nt (nI p) = p := nt_nI (by omega)
    have hpp := ap_pf hR hp (show 519 < 520 by decide)
    have h520 := ((cr_ly hR).2.2.2.1 p hp).1
    refine x_aloadr_n C dX1_stays_8 9 rfl rfl ?_
    refine x_getr C fl_X1_11 (Or.inr ⟨_, rfl⟩) dX1_stays_9 12 rfl hC.1 (coR_people hC) ?_
    refine x_iload_n C dX1_stays_12 13 rfl rfl ?_
    refine x_aaldr (t := 4) C dX1_stays_13 14 rfl (coA_people hC) (by decide) (coN_people hC) rfl (by omega) (by decide) (cp_elt hR hp) ?_
    refine x_geti C fl_X1_137 (Or.inr (Or.inl rfl)) dX1_stays_14 17 rfl (cp_T hR hp) (cp_isGone hR hp) ?_
    refine x_ifne C dX1_stays_17 20 49 rfl (by decide) (fun h17 => ?_) (fun h17 => ?_)
    · refine x_ic (j := 0) C dX1_stays_49 50 rfl ?_
      exact x_zret C dX1_stays_50 (Nat.le_refl _) (Nat.le_refl _) rfl (Qp_n hR (by simp [sp_stays, no0, h5, ep, h17]))
    · refine x_iload_n C dX1_stays_20 21 rfl rfl ?_
      refine x_ic (j := 0) C dX1_stays_21 22 rfl ?_
      refine x_ic (j := 5) C dX1_stays_22 23 rfl ?_
      refine x_callS C lk_X1_108 dX1_stays_23 26 rfl [_, _, _] [] rfl rfl (Nat.le_of_ble_eq_true rfl) (by decide) (Nat.le_refl _) (Nat.le_refl _) kX1_in ?_
      rintro _ _ _ _ ⟨rfl, rfl, rfl, rfl⟩
      refine x_ifeqZ C dX1_stays_26 29 49 rfl (by decide) (fun h26 => ?_) (fun h26 => ?_)
      · refine x_ic (j := 0) C dX1_stays_49 50 rfl ?_
        exact x_zret C dX1_stays_50 (Nat.le_refl _) (Nat.le_refl _) rfl (Qp_n hR (by simp [sp_stays, no0, h5, ep, h17, h26]))
      · refine x_iload_n C dX1_stays_29 30 rfl rfl ?_
        refine x_iload_n C dX1_stays_30 31 rfl rfl ?_
        refine x_ic (j := 5) C dX1_stays_31 32 rfl ?_
        refine x_callS C lk_X1_108 dX1_stays_32 35 rfl [_, _, _] [] rfl rfl (Nat.le_of_ble_eq_true rfl) (by decide) (Nat.le_refl _) (Nat.le_refl _) kX1_in ?_
        rintro _ _ _ _ ⟨rfl, rfl, rfl, rfl⟩
        refine x_ifeqZ C dX1_stays_35 38 49 rfl (by decide) (fun h35 => ?_) (fun h35 => ?_)
        · refine x_ic (j := 0) C dX1_stays_49 50 rfl ?_
          exact x_zret C dX1_stays_50 (Nat.le_refl _) (Nat.le_refl _) rfl (Qp_n hR (by simp [sp_stays, no0, h5, ep, h17, h26, h35]))
        · refine x_aloadr_n C dX1_stays_38 39 rfl rfl ?_
          refine x_iload_n C dX1_stays_39 40 rfl rfl ?_
          refine x_ic (j := 0) C dX1_stays_40 41 rfl ?_
          refine x_iload_n C dX1_stays_41 42 rfl rfl ?_
          refine x_iload_n C dX1_stays_42 43 rfl rfl ?_
          refine x_callV C lk_X1_168 dX1_stays_43 46 rfl [_, _, _, _] [] rfl rfl hC.1 (Nat.le_of_ble_eq_true rfl) (by decide) (Nat.le_refl _) (Nat.le_refl _) (kX1_leaves hR hI (g := false) (fr' := fr) (tt' := tt) (by omega) (fun _ _ => rfl)) ?_
          rintro _ _ M _ ⟨rfl, rfl, rfl, hM, hf⟩
          refine x_ifneZ C dX1_stays_46 49 51 rfl (by decide) (fun h46 => ?_) (fun h46 => ?_)
          · have epn : pn (sp_leaves T p fr tt (tn T)).2 = pn T := by
              unfold sp_leaves
              split
              · show nt (lvS T p fr tt _ 473 1) = _
                rw [lvS_473 T p fr tt (by decide)]
              · rfl
            have hp2 : p < pn (sp_leaves T p fr tt (tn T)).2 := by omega
            refine x_aloadr_n C dX1_stays_51 52 rfl rfl ?_
            refine x_getr C fl_X1_11 (Or.inr ⟨_, rfl⟩) dX1_stays_52 55 rfl hC.1 (coR_people hC) ?_
            refine x_iload_n C dX1_stays_55 56 rfl rfl ?_
            refine x_aaldr (t := 4) C dX1_stays_56 57 rfl (coA_people hC) (by decide) (coN_people hC) rfl (by omega) (by decide) (cp_elt hR hp) ?_
            refine x_iload_n C dX1_stays_57 58 rfl rfl ?_
            refine x_puti C fl_X1_172 (Or.inl rfl) (Or.inl rfl) dX1_stays_58 61 rfl (cp_T hR hp) ?_
            refine x_aloadr_n C dX1_stays_61 62 rfl rfl ?_
            refine x_getr C fl_X1_11 (Or.inr ⟨_, rfl⟩) dX1_stays_62 65 rfl hC.1 (coR_people hC) ?_
            refine x_iload_n C dX1_stays_65 66 rfl rfl ?_
            refine x_aaldr (t := 4) C dX1_stays_66 67 rfl (coA_people hC) (by decide) (coN_people hC) rfl (by omega) (by decide) (cp_elt hR hp) ?_
            refine x_iload_n C dX1_stays_67 68 rfl rfl ?_
            refine x_puti C fl_X1_175 (Or.inl rfl) (Or.inl rfl) dX1_stays_68 71 rfl (cp_T hR hp) ?_
            refine x_ic (j := 1) C dX1_stays_71 72 rfl ?_
            exact x_zret C dX1_stays_72 (Nat.le_refl _) (Nat.le_refl _) rfl (Qp_s (by simp [sp_stays, h5, ep, h17, h26, h35, h46]) (CoR_stay hM hp2 fr tt) (fz_sto (fz_sto hf (by omega)) (by omega)))
          · rw [sp_leaves_f h46] at hM
            refine x_ic (j := 0) C dX1_stays_49 50 rfl ?_
            exact x_zret C dX1_stays_50 (Nat.le_refl _) (Nat.le_refl _) rfl (Qp_s (by simp [sp_stays, no0, h5, ep, h17, h26, h35, h46]) hM hf)
end Co10
