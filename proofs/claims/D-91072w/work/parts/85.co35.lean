/-! the component: what is now is laid out; worth, give, buy -/
theorem CoR_8 {K : Ly} {S : Sh} {I I' T : Mi} (h : CoR K S I T) (hi : ∀ a, a ≠ 8 → I' a = I a) : CoR K S I' T := by
  have hC := cr_S h
  refine CoR_fx h (fun a ha => hi a (by omega)) (fun a ha => hi a (fun e => ?_)) (fun _ _ => rfl) rfl rfl ?_ (coNo_k (cr_no h) ⟨hi _ (by decide), hi _ (by decide), hi _ (by decide), hi _ (by decide)⟩ rfl ⟨rfl, rfl, rfl⟩) (coTp_k (cr_tp h) (hi _ (by decide)) rfl rfl) (coBk_k (cr_bk h) (fun a q1 q2 => hi a (by omega)) ⟨rfl, rfl, rfl⟩) (coTr_k (cr_tr h) (fun a q1 q2 => hi a (by omega)) (fun _ _ => rfl))
  · rw [e, coA_state hC] at ha
    exact absurd ha (by unfold immT; omega)
  · have := h.2.1
    unfold coSc at this ⊢
    rw [hi 0 (by decide)]
    exact this
section Co35
variable {w : Wd} {l : Launch} {K : Ly} {S : Sh} {I T : Mi} {J : Ml}
theorem kX1_lays (hR : CoR K S I T) (hI : Tok T) (hL : LsOk T) {t : Nat} (ht : t < tn T) : Ct w l yX1_lays cX1_lays 3 (some (.object "TourRooms$Town")) 3 0 0 [.ref 0, .int (nI t)] S I J (fun r S' I' J' => r = some (.ref (ta K t)) ∧ S = S' ∧ J = J' ∧ (∀ a, a ≠ 8 → I' a = I a) ∧ I' 8 0 = T 473 15 + T 484 t - T 473 14 ∧ I' 8 1 = nI (heldN T t (rn T t)) ∧ I' 8 2 = nI (usedN T (pn T) t (rn T t)) ∧ I' 8 3 = nI (peopN T t (pn T)) ∧ I' 8 4 = T 473 16) := by
  refine Ct.of [some _, some _, none] rfl (Nat.le_of_ble_eq_true rfl) (by decide) ?_
  intro κ hκ C
  subst hκ
  have hC := cr_S hR
  have hp10 := tk_p2 hI
  have ht6 := tk_t2 hI
  have hg30 := tk_g2 hI
  have hc30 := tk_c2 hI
  have hn500 := tk_n2 hI
  refine x_aloadr_n C dX1_lays_0 1 rfl rfl ?_
  refine x_getr C fl_X1_17 (Or.inr ⟨_, rfl⟩) dX1_lays_1 4 rfl hC.1 (coR_towns hC) ?_
  refine x_iload_n C dX1_lays_4 5 rfl rfl ?_
  refine x_aaldr (t := 5) C dX1_lays_5 6 rfl (coA_towns hC) (by decide) (coN_towns hC) rfl (by omega) (by decide) (ct_elt hR ht) ?_
  refine x_astorer_n C dX1_lays_6 7 rfl [_, _, _] (by decide) rfl rfl ?_
  refine x_aloadr_n C dX1_lays_7 8 rfl rfl ?_
  refine x_getr C fl_X1_48 (Or.inl ⟨_, rfl⟩) dX1_lays_8 11 rfl hC.1 (coR_state hC) ?_
  refine x_aloadr_n C dX1_lays_11 12 rfl rfl ?_
  refine x_geti C fl_X1_21 (Or.inl rfl) dX1_lays_12 15 rfl hC.1 (cs_start hR) ?_
  refine x_aloadr_n C dX1_lays_15 16 rfl rfl ?_
  refine x_geti C fl_X1_118 (Or.inl rfl) dX1_lays_16 19 rfl (ct_T hR ht) (ct_first hR ht) ?_
  refine x_iadd C dX1_lays_19 20 rfl rfl ?_
  refine x_aloadr_n C dX1_lays_20 21 rfl rfl ?_
  refine x_geti C fl_X1_154 (Or.inl rfl) dX1_lays_21 24 rfl hC.1 (cs_day hR) ?_
  refine x_isub C dX1_lays_24 25 rfl rfl ?_
  refine x_puti C fl_X1_332 (Or.inl rfl) (Or.inl rfl) dX1_lays_25 28 rfl (coA_state hC) ?_
  refine x_aloadr_n C dX1_lays_28 29 rfl rfl ?_
  refine x_getr C fl_X1_48 (Or.inl ⟨_, rfl⟩) dX1_lays_29 32 rfl hC.1 (coR_state hC) ?_
  refine x_aloadr_n C dX1_lays_32 33 rfl rfl ?_
  refine x_callV C lk_X1_335 dX1_lays_33 36 rfl [] [_] rfl rfl (ct_T hR ht) (Nat.le_of_ble_eq_true rfl) (by decide) (Nat.le_refl _) (Nat.le_refl _) (kX5_held (CoR_8 hR (fun a ha => by first | rw [sto_n _ _ _ ha] | rw [sto_n _ _ _ ha, sto_n _ _ _ ha])) hI ht) ?_
  rintro _ _ _ _ ⟨rfl, rfl, rfl, rfl⟩
  refine x_puti C fl_X1_337 (Or.inl rfl) (Or.inl rfl) dX1_lays_36 39 rfl (coA_state hC) ?_
  refine x_aloadr_n C dX1_lays_39 40 rfl rfl ?_
  refine x_getr C fl_X1_48 (Or.inl ⟨_, rfl⟩) dX1_lays_40 43 rfl hC.1 (coR_state hC) ?_
  refine x_aloadr_n C dX1_lays_43 44 rfl rfl ?_
  refine x_callV C lk_X1_339 dX1_lays_44 47 rfl [] [_] rfl rfl (ct_T hR ht) (Nat.le_of_ble_eq_true rfl) (by decide) (Nat.le_refl _) (Nat.le_refl _) (kX5_used (CoR_8 hR (fun a ha => by rw [sto_n _ _ _ ha, sto_n _ _ _ ha])) hI hL ht) ?_
  rintro _ _ _ _ ⟨rfl, rfl, rfl, rfl⟩
  refine x_puti C fl_X1_342 (Or.inl rfl) (Or.inl rfl) dX1_lays_47 50 rfl (coA_state hC) ?_
  refine x_aloadr_n C dX1_lays_50 51 rfl rfl ?_
  refine x_getr C fl_X1_48 (Or.inl ⟨_, rfl⟩) dX1_lays_51 54 rfl hC.1 (coR_state hC) ?_
  refine x_aloadr_n C dX1_lays_54 55 rfl rfl ?_
  refine x_callV C lk_X1_344 dX1_lays_55 58 rfl [] [_] rfl rfl (ct_T hR ht) (Nat.le_of_ble_eq_true rfl) (by decide) (Nat.le_refl _) (Nat.le_refl _) (kX5_people (CoR_8 hR (fun a ha => by rw [sto_n _ _ _ ha, sto_n _ _ _ ha, sto_n _ _ _ ha])) hI hL ht) ?_
  rintro _ _ _ _ ⟨rfl, rfl, rfl, rfl⟩
  refine x_puti C fl_X1_346 (Or.inl rfl) (Or.inl rfl) dX1_lays_58 61 rfl (coA_state hC) ?_
  refine x_aloadr_n C dX1_lays_61 62 rfl rfl ?_
  refine x_getr C fl_X1_48 (Or.inl ⟨_, rfl⟩) dX1_lays_62 65 rfl hC.1 (coR_state hC) ?_
  refine x_aloadr_n C dX1_lays_65 66 rfl rfl ?_
  refine x_geti C fl_X1_184 (Or.inl rfl) dX1_lays_66 69 rfl hC.1 (show I 0 8 = T 473 16 from cs_season hR) ?_
  refine x_puti C fl_X1_348 (Or.inl rfl) (Or.inl rfl) dX1_lays_69 72 rfl (coA_state hC) ?_
  refine x_aloadr_n C dX1_lays_72 73 rfl rfl ?_
  exact x_aret (r := some _) C (Or.inl ⟨_, rfl⟩) dX1_lays_73 (Nat.le_refl _) (Nat.le_refl _) ⟨rfl, rfl, rfl, fun a ha => by rw [sto_n _ _ _ ha, sto_n _ _ _ ha, sto_n _ _ _ ha, sto_n _ _ _ ha, sto_n _ _ _ ha], rfl, rfl, rfl, rfl, rfl⟩
theorem sg8_st {I' : Mi} {t : Nat} (h0 : I' 8 0 = T 473 15 + T 484 t - T 473 14) (h1 : I' 8 1 = nI (heldN T t (rn T t))) (h2 : I' 8 2 = nI (usedN T (pn T) t (rn T t))) (h3 : I' 8 3 = nI (peopN T t (pn T))) (h4 : I' 8 4 = T 473 16) : sg8 I' = stI T t := by
  funext k
  match k with
  | 0 => exact h0
  | 1 => exact h1
  | 2 => exact h2
  | 3 => exact h3
  | k + 4 => exact h4
theorem kX1_worth (hR : CoR K S I T) (hI : Tok T) (hL : LsOk T) {t k : Int32} : Ct w l yX1_worth cX1_worth 3 (some .int) 504 0 0 [.ref 0, .int t, .int k] S I J (Qp (sp_worth T t k, T) S I J 0) := by
  refine Ct.of [some _, some _, some _] rfl (Nat.le_of_ble_eq_true rfl) (by decide) ?_
  intro κ hκ C
  subst hκ
  have hC := cr_S hR
  have hp10 := tk_p2 hI
  have ht6 := tk_t2 hI
  have hg30 := tk_g2 hI
  have hc30 := tk_c2 hI
  have hn500 := tk_n2 hI
  refine x_aloadr_n C dX1_worth_0 1 rfl rfl ?_
  refine x_iload_n C dX1_worth_1 2 rfl rfl ?_
  refine x_callV C lk_X1_124 dX1_worth_2 5 rfl [_] [] rfl rfl hC.1 (Nat.le_of_ble_eq_true rfl) (by decide) (Nat.le_refl _) (Nat.le_refl _) (kX1_isTown hR) ?_
  rintro _ _ _ _ ⟨rfl, rfl, rfl, rfl⟩
  refine x_ifeqZ C dX1_worth_5 8 30 rfl (by decide) (fun h5 => ?_) (fun h5 => ?_)
  · refine x_icm C dX1_worth_30 31 rfl ?_
    exact x_iret C dX1_worth_31 (Nat.le_refl _) (Nat.le_refl _) (Qp_s (by simp [sp_worth, h5]) hR fz_rfl)
  · refine x_iload_n C dX1_worth_8 9 rfl rfl ?_
    refine x_ic (j := 0) C dX1_worth_9 10 rfl ?_
    refine x_ic (j := 3) C dX1_worth_10 11 rfl ?_
    refine x_callS C lk_X1_108 dX1_worth_11 14 rfl [_, _, _] [] rfl rfl (Nat.le_of_ble_eq_true rfl) (by decide) (Nat.le_refl _) (Nat.le_refl _) kX1_in ?_
    rintro _ _ _ _ ⟨rfl, rfl, rfl, rfl⟩
    refine x_ifeqZ C dX1_worth_14 17 30 rfl (by decide) (fun h14 => ?_) (fun h14 => ?_)
    · refine x_icm C dX1_worth_30 31 rfl ?_
      exact x_iret C dX1_worth_31 (Nat.le_refl _) (Nat.le_refl _) (Qp_s (by simp [sp_worth, h5, h14]) hR fz_rfl)
    · obtain ⟨t, ht, rfl⟩ := to_I hI h5
      have et : nt (nI t) = t := nt_nI (by omega)
      refine x_aloadr_n C dX1_worth_17 18 rfl rfl ?_
      refine x_aloadr_n C dX1_worth_18 19 rfl rfl ?_
      refine x_iload_n C dX1_worth_19 20 rfl rfl ?_
      refine x_callV C lk_X1_349 dX1_worth_20 23 rfl [_] [_] rfl rfl hC.1 (Nat.le_of_ble_eq_true rfl) (by decide) (Nat.le_refl _) (Nat.le_refl _) (kX1_lays hR hI hL ht) ?_
      rintro _ _ M _ ⟨rfl, rfl, rfl, hM, m0, m1, m2, m3, m4⟩
      have hR2 := CoR_8 hR hM
      refine x_iload_n C dX1_worth_23 24 rfl rfl ?_
      refine x_callV C lk_X1_353 dX1_worth_24 27 rfl [_, _] [] rfl rfl hC.1 (Nat.le_of_ble_eq_true rfl) (by decide) (Nat.le_refl _) (Nat.le_refl _) (kX1_worthOf hR2 hI ht) ?_
      rintro _ _ _ _ ⟨rfl, rfl, rfl, rfl⟩
      rw [sg8_st m0 m1 m2 m3 m4]
      refine x_goto C dX1_worth_27 31 (by decide) ?_
      exact x_iret C dX1_worth_31 (Nat.le_refl _) (Nat.le_refl _) (Qp_s (by simp [sp_worth, et, h5, h14]) hR2 (fun a q1 q2 => hM a (by omega)))
end Co35
