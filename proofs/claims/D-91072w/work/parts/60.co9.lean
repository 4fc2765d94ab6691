/-! the component: numbers set; people's changes -/
theorem in_of2 {v : Int32} {c m : Nat} (h : inB v (nI c) (nI m - nI 1) = true) (hc : c < 2 ^ 31) (hm : m < 2 ^ 31) : ∃ j : Nat, j < m ∧ v = nI j := by
  obtain ⟨g1, g2⟩ := inB_iff.mp h
  exact in_of (inB_iff.mpr ⟨Int32.le_trans (nI_le (Nat.zero_le _) (by omega)) g1, g2⟩) hm
theorem CoR_day {K : Ly} {S : Sh} {I T : Mi} (hR : CoR K S I T) (v : Int32) : CoR K S (sto I 0 6 v) (sto T 473 14 v) := by
  refine CoR_sc hR (fun a ha => sto_n _ _ _ ha) (fun b hb => sto_n _ _ _ hb) ?_ rfl rfl rfl rfl
  obtain ⟨g1, g2, g3, g4, g5, g6, g7, g8, g9, g10, g11, g12, g13, g14, g15, g16⟩ := hR.2.1
  exact ⟨g1, g2, g3, g4, rfl, g6, g7, g8, g9, g10, g11, g12, g13, g14, g15, g16⟩
theorem CoR_start {K : Ly} {S : Sh} {I T : Mi} (hR : CoR K S I T) (v : Int32) : CoR K S (sto I 0 7 v) (sto T 473 15 v) := by
  refine CoR_sc hR (fun a ha => sto_n _ _ _ ha) (fun b hb => sto_n _ _ _ hb) ?_ rfl rfl rfl rfl
  obtain ⟨g1, g2, g3, g4, g5, g6, g7, g8, g9, g10, g11, g12, g13, g14, g15, g16⟩ := hR.2.1
  exact ⟨g1, g2, g3, g4, g5, rfl, g7, g8, g9, g10, g11, g12, g13, g14, g15, g16⟩
theorem CoR_season {K : Ly} {S : Sh} {I T : Mi} (hR : CoR K S I T) (v : Int32) : CoR K S (sto I 0 8 v) (sto T 473 16 v) := by
  refine CoR_sc hR (fun a ha => sto_n _ _ _ ha) (fun b hb => sto_n _ _ _ hb) ?_ rfl rfl rfl rfl
  obtain ⟨g1, g2, g3, g4, g5, g6, g7, g8, g9, g10, g11, g12, g13, g14, g15, g16⟩ := hR.2.1
  exact ⟨g1, g2, g3, g4, g5, g6, rfl, g8, g9, g10, g11, g12, g13, g14, g15, g16⟩
theorem CoR_spent {K : Ly} {S : Sh} {I T : Mi} (hR : CoR K S I T) (v : Int32) : CoR K S (sto I 0 9 v) (sto T 473 17 v) := by
  refine CoR_sc hR (fun a ha => sto_n _ _ _ ha) (fun b hb => sto_n _ _ _ hb) ?_ rfl rfl rfl rfl
  obtain ⟨g1, g2, g3, g4, g5, g6, g7, g8, g9, g10, g11, g12, g13, g14, g15, g16⟩ := hR.2.1
  exact ⟨g1, g2, g3, g4, g5, g6, g7, rfl, g9, g10, g11, g12, g13, g14, g15, g16⟩
theorem CoR_moved {K : Ly} {S : Sh} {I T : Mi} (hR : CoR K S I T) (v : Int32) : CoR K S (sto I 0 11 v) (sto T 473 37 v) := by
  refine CoR_sc hR (fun a ha => sto_n _ _ _ ha) (fun b hb => sto_n _ _ _ hb) ?_ rfl rfl rfl rfl
  obtain ⟨g1, g2, g3, g4, g5, g6, g7, g8, g9, g10, g11, g12, g13, g14, g15, g16⟩ := hR.2.1
  exact ⟨g1, g2, g3, g4, g5, g6, g7, g8, g9, rfl, g11, g12, g13, g14, g15, g16⟩
section Co9
variable {w : Wd} {l : Launch} {K : Ly} {S : Sh} {I T : Mi} {J : Ml}
theorem kX1_start (hR : CoR K S I T) (hI : Tok T) {v : Int32} : Ct w l yX1_start cX1_start 2 (some .boolean) 2 0 0 [.ref 0, .int v] S I J (Qp (sp_start T v) S I J 0) := by
  refine Ct.of [some _, some _] rfl (Nat.le_of_ble_eq_true rfl) (by decide) ?_
  intro κ hκ C
  subst hκ
  have hC := cr_S hR
  have hp10 := tk_p2 hI
  have ht6 := tk_t2 hI
  have hg30 := tk_g2 hI
  have hc30 := tk_c2 hI
  have hn500 := tk_n2 hI
  refine x_iload_n C dX1_start_0 1 rfl rfl ?_
  refine x_ic (j := 0) C dX1_start_1 2 rfl ?_
  refine x_sip (j := 400) C dX1_start_2 5 rfl (by decide) ?_
  refine x_callS C lk_X1_108 dX1_start_5 8 rfl [_, _, _] [] rfl rfl (Nat.le_of_ble_eq_true rfl) (by decide) (Nat.le_refl _) (Nat.le_refl _) kX1_in ?_
  rintro _ _ _ _ ⟨rfl, rfl, rfl, rfl⟩
  refine x_ifeqZ C dX1_start_8 11 18 rfl (by decide) (fun h8 => ?_) (fun h8 => ?_)
  · refine x_ic (j := 0) C dX1_start_18 19 rfl ?_
    exact x_zret C dX1_start_19 (Nat.le_refl _) (Nat.le_refl _) rfl (Qp_n hR (by simp [sp_start, no0, h8]))
  · refine x_aloadr_n C dX1_start_11 12 rfl rfl ?_
    refine x_geti C fl_X1_115 (Or.inl rfl) dX1_start_12 15 rfl hC.1 (cs_closed hR) ?_
    refine x_ifle C dX1_start_15 18 20 rfl (by decide) (fun h15 => ?_) (fun h15 => ?_)
    · refine x_aloadr_n C dX1_start_20 21 rfl rfl ?_
      refine x_iload_n C dX1_start_21 22 rfl rfl ?_
      refine x_puti C fl_X1_21 (Or.inl rfl) (Or.inl rfl) dX1_start_22 25 rfl hC.1 ?_
      refine x_ic (j := 1) C dX1_start_25 26 rfl ?_
      exact x_zret C dX1_start_26 (Nat.le_refl _) (Nat.le_refl _) rfl (Qp_s (by simp [sp_start, h8, h15, nI_1]) (CoR_start hR _) (fz_sto fz_rfl (by decide)))
    · refine x_ic (j := 0) C dX1_start_18 19 rfl ?_
      exact x_zret C dX1_start_19 (Nat.le_refl _) (Nat.le_refl _) rfl (Qp_n hR (by simp [sp_start, no0, h8, h15]))
theorem kX1_season (hR : CoR K S I T) (hI : Tok T) {v : Int32} : Ct w l yX1_season cX1_season 2 (some .boolean) 2 0 0 [.ref 0, .int v] S I J (Qp (sp_season T v) S I J 0) := by
  refine Ct.of [some _, some _] rfl (Nat.le_of_ble_eq_true rfl) (by decide) ?_
  intro κ hκ C
  subst hκ
  have hC := cr_S hR
  have hp10 := tk_p2 hI
  have ht6 := tk_t2 hI
  have hg30 := tk_g2 hI
  have hc30 := tk_c2 hI
  have hn500 := tk_n2 hI
  refine x_iload_n C dX1_season_0 1 rfl rfl ?_
  refine x_ic (j := 0) C dX1_season_1 2 rfl ?_
  refine x_ic (j := 3) C dX1_season_2 3 rfl ?_
  refine x_callS C lk_X1_108 dX1_season_3 6 rfl [_, _, _] [] rfl rfl (Nat.le_of_ble_eq_true rfl) (by decide) (Nat.le_refl _) (Nat.le_refl _) kX1_in ?_
  rintro _ _ _ _ ⟨rfl, rfl, rfl, rfl⟩
  refine x_ifneZ C dX1_season_6 9 11 rfl (by decide) (fun h6 => ?_) (fun h6 => ?_)
  · refine x_aloadr_n C dX1_season_11 12 rfl rfl ?_
    refine x_iload_n C dX1_season_12 13 rfl rfl ?_
    refine x_puti C fl_X1_184 (Or.inl rfl) (Or.inl rfl) dX1_season_13 16 rfl hC.1 ?_
    refine x_ic (j := 1) C dX1_season_16 17 rfl ?_
    exact x_zret C dX1_season_17 (Nat.le_refl _) (Nat.le_refl _) rfl (Qp_s (by simp [sp_season, h6]) (CoR_season hR _) (fz_sto fz_rfl (by decide)))
  · refine x_ic (j := 0) C dX1_season_9 10 rfl ?_
    exact x_zret C dX1_season_10 (Nat.le_refl _) (Nat.le_refl _) rfl (Qp_n hR (by simp [sp_season, no0, h6]))
theorem kX1_day (hR : CoR K S I T) (hI : Tok T) {v : Int32} : Ct w l yX1_day cX1_day 2 (some .int) 2 0 0 [.ref 0, .int v] S I J (Qp (sp_day T v) S I J 0) := by
  refine Ct.of [some _, some _] rfl (Nat.le_of_ble_eq_true rfl) (by decide) ?_
  intro κ hκ C
  subst hκ
  have hC := cr_S hR
  have hp10 := tk_p2 hI
  have ht6 := tk_t2 hI
  have hg30 := tk_g2 hI
  have hc30 := tk_c2 hI
  have hn500 := tk_n2 hI
  refine x_iload_n C dX1_day_0 1 rfl rfl ?_
  refine x_ic (j := 0) C dX1_day_1 2 rfl ?_
  refine x_bip (j := 100) C dX1_day_2 4 rfl (by decide) ?_
  refine x_callS C lk_X1_108 dX1_day_4 7 rfl [_, _, _] [] rfl rfl (Nat.le_of_ble_eq_true rfl) (by decide) (Nat.le_refl _) (Nat.le_refl _) kX1_in ?_
  rintro _ _ _ _ ⟨rfl, rfl, rfl, rfl⟩
  refine x_ifeqZ C dX1_day_7 10 22 rfl (by decide) (fun h7 => ?_) (fun h7 => ?_)
  · refine x_icm C dX1_day_22 23 rfl ?_
    exact x_iret C dX1_day_23 (Nat.le_refl _) (Nat.le_refl _) (Qp_n hR (by simp [sp_day, no1, h7]))
  · refine x_aloadr_n C dX1_day_10 11 rfl rfl ?_
    refine x_geti C fl_X1_154 (Or.inl rfl) dX1_day_11 14 rfl hC.1 (cs_day hR) ?_
    refine x_iload_n C dX1_day_14 15 rfl rfl ?_
    refine x_iadd C dX1_day_15 16 rfl rfl ?_
    refine x_sip (j := 1000) C dX1_day_16 19 rfl (by decide) ?_
    refine x_icmple C dX1_day_19 22 24 rfl (by decide) (fun h19 => ?_) (fun h19 => ?_)
    · refine x_aloadr_n C dX1_day_24 25 rfl rfl ?_
      refine x_dup C dX1_day_25 26 rfl rfl ?_
      refine x_geti C fl_X1_154 (Or.inl rfl) dX1_day_26 29 rfl hC.1 (cs_day hR) ?_
      refine x_iload_n C dX1_day_29 30 rfl rfl ?_
      refine x_iadd C dX1_day_30 31 rfl rfl ?_
      refine x_puti C fl_X1_154 (Or.inl rfl) (Or.inl rfl) dX1_day_31 34 rfl hC.1 ?_
      refine x_aloadr_n C dX1_day_34 35 rfl rfl ?_
      refine x_geti C fl_X1_154 (Or.inl rfl) dX1_day_35 38 rfl hC.1 (sto_ss _ _ _ _) ?_
      exact x_iret C dX1_day_38 (Nat.le_refl _) (Nat.le_refl _) (Qp_s (by simp [sp_day, h7, h19]) (CoR_day hR _) (fz_sto fz_rfl (by decide)))
    · refine x_icm C dX1_day_22 23 rfl ?_
      exact x_iret C dX1_day_23 (Nat.le_refl _) (Nat.le_refl _) (Qp_n hR (by simp [sp_day, no1, h7, h19]))
theorem CoR_absent (hR : CoR K S I T) {p k : Nat} {v : Int32} (hp : p < 10) (hk : k < 30) : CoR K S (sto I (10 + k) p v) (sto T 494 (10 * k + p) v) := by
  have hC := cr_S hR
  have hi : ∀ a, a ≠ 10 + k → sto I (10 + k) p v a = I a := fun a h => sto_n _ _ _ h
  have ht : ∀ b, b ≠ 494 → sto T 494 (10 * k + p) v b = T b := fun b h => sto_n _ _ _ h
  refine CoR_mem hR ?_ rfl rfl (fun t _ => rfl) (fun p hp => perR_k (cr_pe hR hp) (hi _ (ap_pf hR hp (by omega))) (fun b hb => ht b ?_)) (fun t htt => towR_k (cr_to hR htt) (hi _ (ap_tf hR htt (by omega)).1) (hi _ (ap_tf hR htt (by omega)).2) (fun r hr => hi _ (ap_rf hR htt hr (by omega))) (fun b hb => ht b ?_)) (im_sto (hC.2.2.1 k hk).2.1 ni_101 im_rfl) ⟨rfl, rfl⟩ rfl (coNo_k (cr_no hR) ⟨hi _ (by omega), hi _ (by omega), hi _ (by omega), hi _ (by omega)⟩ rfl ⟨rfl, rfl, rfl⟩) (coTp_k (cr_tp hR) (hi _ (by omega)) rfl rfl) ?_ (coTr_k (cr_tr hR) (fun a q1 q2 => hi a (by omega)) (fun b hb => ht b ?_))
  · have := hR.2.1
    unfold coSc at this ⊢
    rw [hi 0 (by omega)]
    exact this
  · simp only [List.mem_cons, List.not_mem_nil, or_false] at hb
    omega
  · simp only [List.mem_cons, List.not_mem_nil, or_false] at hb
    omega
  · refine ⟨fun n q hn hq => ?_, fun n hn => ?_⟩
    · rw [hi (41 + n) (by omega), sto_at, sto_at]
      refine ⟨?_, ((cr_bk hR).1 n q hn hq).2⟩
      by_cases e : n = k ∧ q = p
      · rw [if_pos ⟨by omega, e.2⟩, if_pos ⟨rfl, by omega⟩]
      · rw [if_neg (by omega), if_neg (by omega)]
        exact ((cr_bk hR).1 n q hn hq).1
    · rw [hi 71 (by omega)]
      exact (cr_bk hR).2 n hn
  · simp only [List.mem_cons, List.not_mem_nil, or_false] at hb
    omega
theorem kX1_absent (hR : CoR K S I T) (hI : Tok T) {p k : Int32} {is : Bool} : Ct w l yX1_absent cX1_absent 4 (some .boolean) 3 0 0 [.ref 0, .int p, .int k, .int (bz is)] S I J (Qp (sp_absent T p k is) S I J 0) := by
  refine Ct.of [some _, some _, some _, some _] rfl (Nat.le_of_ble_eq_true rfl) (by decide) ?_
  intro κ hκ C
  subst hκ
  have hC := cr_S hR
  have hp10 := tk_p2 hI
  have ht6 := tk_t2 hI
  have hg30 := tk_g2 hI
  have hc30 := tk_c2 hI
  have hn500 := tk_n2 hI
  refine x_aloadr_n C dX1_absent_0 1 rfl rfl ?_
  refine x_iload_n C dX1_absent_1 2 rfl rfl ?_
  refine x_callV C lk_X1_134 dX1_absent_2 5 rfl [_] [] rfl rfl hC.1 (Nat.le_of_ble_eq_true rfl) (by decide) (Nat.le_refl _) (Nat.le_refl _) (kX1_isPerson hR) ?_
  rintro _ _ _ _ ⟨rfl, rfl, rfl, rfl⟩
  refine x_ifeqZ C dX1_absent_5 8 25 rfl (by decide) (fun h5 => ?_) (fun h5 => ?_)
  · refine x_ic (j := 0) C dX1_absent_25 26 rfl ?_
    exact x_zret C dX1_absent_26 (Nat.le_refl _) (Nat.le_refl _) rfl (Qp_n hR (by simp [sp_absent, no0, h5]))
  · refine x_iload_n C dX1_absent_8 9 rfl rfl ?_
    refine x_aloadr_n C dX1_absent_9 10 rfl rfl ?_
    refine x_geti C fl_X1_115 (Or.inl rfl) dX1_absent_10 13 rfl hC.1 (cs_closed hR) ?_
    refine x_aloadr_n C dX1_absent_13 14 rfl rfl ?_
    refine x_geti C fl_X1_178 (Or.inl rfl) dX1_absent_14 17 rfl hC.1 (cs_nightMany hR) ?_
    refine x_ic (j := 1) C dX1_absent_17 18 rfl ?_
    refine x_isub C dX1_absent_18 19 rfl rfl ?_
    refine x_callS C lk_X1_108 dX1_absent_19 22 rfl [_, _, _] [] rfl rfl (Nat.le_of_ble_eq_true rfl) (by decide) (Nat.le_refl _) (Nat.le_refl _) kX1_in ?_
    rintro _ _ _ _ ⟨rfl, rfl, rfl, rfl⟩
    refine x_ifneZ C dX1_absent_22 25 27 rfl (by decide) (fun h22 => ?_) (fun h22 => ?_)
    · obtain ⟨p, hp, rfl⟩ := pe_I hI h5
      have h22' := h22
      rw [tk_c hI, tk_g hI] at h22'
      obtain ⟨k, hk, rfl⟩ := in_of2 h22' (by omega) (by omega)
      have ek : nt (nI k) = k := nt_nI (by omega)
      have ep : nt (nI p) = p := nt_nI (by omega)
      have hg := hC.2.2.1 k (by omega)
      refine x_aloadr_n C dX1_absent_27 28 rfl rfl ?_
      refine x_getr C fl_X1_54 (Or.inr ⟨_, rfl⟩) dX1_absent_28 31 rfl hC.1 (coR_absent hC) ?_
      refine x_iload_n C dX1_absent_31 32 rfl rfl ?_
      refine x_aaldr (t := 9) C dX1_absent_32 33 rfl (coA_absent hC) (by decide) (coN_absent hC) rfl (by omega) (by decide) hg.1 ?_
      refine x_iload_n C dX1_absent_33 34 rfl rfl ?_
      refine x_iload_n C dX1_absent_34 35 rfl rfl ?_
      refine x_zast C dX1_absent_35 36 rfl hg.2.1 hg.2.2 rfl (by omega) (by decide) (bz_nar _) ?_
      refine x_ic (j := 1) C dX1_absent_36 37 rfl ?_
      exact x_zret C dX1_absent_37 (Nat.le_refl _) (Nat.le_refl _) rfl (Qp_s (by simp [sp_absent, h5, h22, ek, ep]) (CoR_absent hR (by omega) (by omega)) (fz_sto fz_rfl (by omega)))
    · refine x_ic (j := 0) C dX1_absent_25 26 rfl ?_
      exact x_zret C dX1_absent_26 (Nat.le_refl _) (Nat.le_refl _) rfl (Qp_n hR (by simp [sp_absent, no0, h5, h22]))
end Co9
