/-! the component: rooms given back and bought -/
theorem sto_comm {I : Mi} {a b i j : Nat} {u v : Int32} (h : a ≠ b) : sto (sto I a i u) b j v = sto (sto I b j v) a i u := by
  funext c k
  rw [sto_at, sto_at, sto_at, sto_at]
  by_cases h1 : c = b ∧ k = j
  · rw [if_pos h1, if_neg (fun q => h (q.1.symm.trans h1.1)), if_pos h1]
  · rw [if_neg h1]
    by_cases h2 : c = a ∧ k = i
    · rw [if_pos h2, if_pos h2]
    · rw [if_neg h2, if_neg h2, if_neg h1]
theorem CoR_held {K : Ly} {S : Sh} {I T : Mi} (h : CoR K S I T) (hI : Tok T) {t r : Nat} (ht : t < tn T) (hr : r < rn T t) (v : Int32) : CoR K S (sto I (ra K t r) 3 v) (sto T 489 (10 * t + r) v) := by
  have hC := cr_S h
  have hly := cr_ly h
  have ht6 := tk_t2 hI
  have h520 := hly.2.2.2.2.2.1 t r ht hr
  have hi : ∀ a, a ≠ ra K t r → sto I (ra K t r) 3 v a = I a := fun a ha => sto_n _ _ _ ha
  have tb : ∀ b, b ≠ 489 → sto T 489 (10 * t + r) v b = T b := fun b hb => sto_n _ _ _ hb
  refine CoR_mem h ?_ rfl rfl (fun _ _ => rfl) (fun p hp => perR_k (cr_pe h hp) (hi _ (ap_tag (cp_T h hp) (cm_T h ht hr) (by decide))) (fun b hb => tb b (ht_mem hb (by decide)))) (fun u hu => ?_) (im_sto (cm_T h ht hr) ni_5 im_rfl) ⟨rfl, rfl⟩ rfl (coNo_k (cr_no h) ⟨hi _ (by omega), hi _ (by omega), hi _ (by omega), hi _ (by omega)⟩ rfl ⟨rfl, rfl, rfl⟩) (coTp_k (cr_tp h) (hi _ (by omega)) rfl rfl) (coBk_k (cr_bk h) (fun a q1 q2 => hi a (by omega)) ⟨rfl, rfl, rfl⟩) (coTr_k (cr_tr h) (fun a q1 q2 => hi a (by omega)) (fun b hb => tb b (ht_mem hb (by decide))))
  · have := h.2.1
    unfold coSc at this ⊢
    rw [hi 0 (by omega)]
    exact this
  · obtain ⟨g1, g2, g3, g4, g5, g6, g7, g8, g9, g10, g11, g12, g13, g14⟩ := cr_to h hu
    unfold towR
    rw [hi (ta K u) (ap_tag (ct_T h hu) (cm_T h ht hr) (by decide)), hi (ta K u + 2) (ap_tag (ct_listA h hu) (cm_T h ht hr) (by decide))]
    refine ⟨g1, g2, g3, g4, g5, g6, g7, g8, g9, g10, g11, g12, g13, fun s hs => ?_⟩
    have hs2 : s < rn T u := hs
    have hsr := g14 s hs2
    have hs10 := tk_r2 hI (show u < 6 by omega)
    have hr10 := tk_r2 hI (show t < 6 by omega)
    unfold rooR at hsr ⊢
    by_cases e : u = t ∧ s = r
    · obtain ⟨rfl, rfl⟩ := e
      obtain ⟨q1, q2, q3, q4, q5, q6⟩ := hsr
      have e2 : ∀ i, sto I (ra K u s) 3 v (ra K u s) i = if i = 3 then v else I (ra K u s) i := fun i => by
        rw [sto_at]
        simp
      simp only [e2]
      exact ⟨q1, q2, q3, q4, q5, (sto_ss _ _ _ _).symm⟩
    · have hne : ra K u s ≠ ra K t r := fun q => e (hly.2.2.1 u t s r hu ht hs2 hr q)
      have hx : ¬ 10 * u + s = 10 * t + r := by omega
      rw [hi _ hne, sto_kn _ _ _ _ hx]
      exact hsr
section Co36
variable {w : Wd} {l : Launch} {K : Ly} {S : Sh} {I T : Mi} {J : Ml}
theorem kX1_costs (hR : CoR K S I T) (hI : Tok T) (hL : LsOk T) {t r : Nat} {kd : Int32} (ht : t < tn T) (hr : r < rn T t) : Ct w l yX1_costs cX1_costs 6 (some .int) 504 0 0 [.ref 0, .int (nI t), .int (nI r), .int kd] S I J (Qk (some (.int (prt T t r (tol (rulesOf T t) kd (stI T t))))) (sto T 473 17 (T 473 17 + prt T t r (tol (rulesOf T t) kd (stI T t)))) K S I J) := by
  have hr10 := tk_r2 hI (show t < 6 by have := tk_t2 hI; omega)
  refine Ct.of [some _, some _, some _, some _, none, none] rfl (Nat.le_of_ble_eq_true rfl) (by decide) ?_
  intro κ hκ C
  subst hκ
  have hC := cr_S hR
  have hp10 := tk_p2 hI
  have ht6 := tk_t2 hI
  have hg30 := tk_g2 hI
  have hc30 := tk_c2 hI
  have hn500 := tk_n2 hI
  refine x_aloadr_n C dX1_costs_0 1 rfl rfl ?_
  refine x_iload_n C dX1_costs_1 2 rfl rfl ?_
  refine x_callV C lk_X1_349 dX1_costs_2 5 rfl [_] [] rfl rfl hC.1 (Nat.le_of_ble_eq_true rfl) (by decide) (Nat.le_refl _) (Nat.le_refl _) (kX1_lays hR hI hL ht) ?_
  rintro _ _ M _ ⟨rfl, rfl, rfl, hM, m0, m1, m2, m3, m4⟩
  have hR2 := CoR_8 hR hM
  have hR := hR2
  refine x_astorer C dX1_costs_5 7 rfl [_, _, _, _, _, _] (by decide) rfl rfl ?_
  refine x_aloadr C dX1_costs_7 9 rfl rfl ?_
  refine x_getr C fl_X1_187 (Or.inr ⟨_, rfl⟩) dX1_costs_9 12 rfl (ct_T hR ht) (ct_rooms hR ht) ?_
  refine x_iload_n C dX1_costs_12 13 rfl rfl ?_
  refine x_aaldr (t := 6) C dX1_costs_13 14 rfl (ct_roomsA hR ht) (by decide) (ct_roomsN hR ht) rfl (by omega) (by decide) (cm_elt hR ht hr) ?_
  refine x_geti C fl_X1_235 (Or.inl rfl) dX1_costs_14 17 rfl (cm_T hR ht hr) (cm_price hR ht hr) ?_
  refine x_aloadr C dX1_costs_17 19 rfl rfl ?_
  refine x_geti C fl_X1_121 (Or.inl rfl) dX1_costs_19 22 rfl (ct_T hR ht) (ct_nights hR ht) ?_
  refine x_imul C dX1_costs_22 23 rfl rfl ?_
  refine x_aloadr_n C dX1_costs_23 24 rfl rfl ?_
  refine x_aloadr C dX1_costs_24 26 rfl rfl ?_
  refine x_iload_n C dX1_costs_26 27 rfl rfl ?_
  refine x_callV C lk_X1_353 dX1_costs_27 30 rfl [_, _] [_] rfl rfl hC.1 (Nat.le_of_ble_eq_true rfl) (by decide) (Nat.le_refl _) (Nat.le_refl _) (kX1_worthOf hR hI ht) ?_
  rintro _ _ _ _ ⟨rfl, rfl, rfl, rfl⟩
  rw [sg8_st m0 m1 m2 m3 m4]
  refine x_imul C dX1_costs_30 31 rfl rfl ?_
  refine x_bip (j := 99) C dX1_costs_31 33 rfl (by decide) ?_
  refine x_iadd C dX1_costs_33 34 rfl rfl ?_
  refine x_bip (j := 100) C dX1_costs_34 36 rfl (by decide) ?_
  refine x_idiv C dX1_costs_36 37 rfl (by decide) rfl ?_
  refine x_istore C dX1_costs_37 39 rfl [_, _, _, _, _, _] (by decide) rfl rfl ?_
  refine x_aloadr_n C dX1_costs_39 40 rfl rfl ?_
  refine x_dup C dX1_costs_40 41 rfl rfl ?_
  refine x_geti C fl_X1_357 (Or.inl rfl) dX1_costs_41 44 rfl hC.1 (cs_spent hR) ?_
  refine x_iload C dX1_costs_44 46 rfl rfl ?_
  refine x_iadd C dX1_costs_46 47 rfl rfl ?_
  refine x_puti C fl_X1_357 (Or.inl rfl) (Or.inl rfl) dX1_costs_47 50 rfl hC.1 ?_
  refine x_iload C dX1_costs_50 52 rfl rfl ?_
  exact x_iret C dX1_costs_52 (Nat.le_refl _) (Nat.le_refl _) (Qk_of (CoR_spent hR _) (fz_sto (fun a q1 q2 => hM a (by omega)) (by decide)))
theorem kX1_give (hR : CoR K S I T) (hI : Tok T) (hL : LsOk T) {t r : Int32} : Ct w l yX1_give cX1_give 4 (some .int) 505 0 0 [.ref 0, .int t, .int r] S I J (Qp (sp_give T t r) S I J 0) := by
  refine Ct.of [some _, some _, some _, none] rfl (Nat.le_of_ble_eq_true rfl) (by decide) ?_
  intro κ hκ C
  subst hκ
  have hC := cr_S hR
  have hp10 := tk_p2 hI
  have ht6 := tk_t2 hI
  have hg30 := tk_g2 hI
  have hc30 := tk_c2 hI
  have hn500 := tk_n2 hI
  refine x_aloadr_n C dX1_give_0 1 rfl rfl ?_
  refine x_iload_n C dX1_give_1 2 rfl rfl ?_
  refine x_iload_n C dX1_give_2 3 rfl rfl ?_
  refine x_callV C lk_X1_222 dX1_give_3 6 rfl [_, _] [] rfl rfl hC.1 (Nat.le_of_ble_eq_true rfl) (by decide) (Nat.le_refl _) (Nat.le_refl _) (kX1_isRoom hR hI) ?_
  rintro _ _ _ _ ⟨rfl, rfl, rfl, rfl⟩
  refine x_ifeqZ C dX1_give_6 9 47 rfl (by decide) (fun q6 => ?_) (fun q6 => ?_)
  · refine x_icm C dX1_give_47 48 rfl ?_
    exact x_iret C dX1_give_48 (Nat.le_refl _) (Nat.le_refl _) (Qp_n hR (by have q6 := Bool.and_eq_false_iff.mp q6; unfold sp_give opB; rw [if_neg (by rcases q6 with q | q <;> simp [q])]; rfl))
  · obtain ⟨h5, h6⟩ := Bool.and_eq_true_iff.mp q6
    obtain ⟨t, ht, rfl⟩ := to_I hI h5
    have et : nt (nI t) = t := nt_nI (by omega)
    rw [et] at h6
    have h6' := h6
    have hr10 := tk_r2 hI (show t < 6 by omega)
    rw [tk_r hI (by omega)] at h6'
    obtain ⟨r, hr, rfl⟩ := in_of h6' (by omega)
    have er : nt (nI r) = r := nt_nI (by omega)
    have h520 := (cr_ly hR).2.2.2.2.2.1 t r ht hr
    refine x_aloadr_n C dX1_give_9 10 rfl rfl ?_
    refine x_iload_n C dX1_give_10 11 rfl rfl ?_
    refine x_callV C lk_X1_157 dX1_give_11 14 rfl [_] [] rfl rfl hC.1 (Nat.le_of_ble_eq_true rfl) (by decide) (Nat.le_refl _) (Nat.le_refl _) (kX1_isOver hR hI ht) ?_
    rintro _ _ _ _ ⟨rfl, rfl, rfl, rfl⟩
    refine x_ifneZ C dX1_give_14 17 47 rfl (by decide) (fun h14 => ?_) (fun h14 => ?_)
    · refine x_icm C dX1_give_47 48 rfl ?_
      exact x_iret C dX1_give_48 (Nat.le_refl _) (Nat.le_refl _) (Qp_n hR (by simp [sp_give, opB, no1, h5, h6, et, er, h14]))
    · refine x_aloadr_n C dX1_give_17 18 rfl rfl ?_
      refine x_getr C fl_X1_17 (Or.inr ⟨_, rfl⟩) dX1_give_18 21 rfl hC.1 (coR_towns hC) ?_
      refine x_iload_n C dX1_give_21 22 rfl rfl ?_
      refine x_aaldr (t := 5) C dX1_give_22 23 rfl (coA_towns hC) (by decide) (coN_towns hC) rfl (by omega) (by decide) (ct_elt hR ht) ?_
      refine x_getr C fl_X1_187 (Or.inr ⟨_, rfl⟩) dX1_give_23 26 rfl (ct_T hR ht) (ct_rooms hR ht) ?_
      refine x_iload_n C dX1_give_26 27 rfl rfl ?_
      refine x_aaldr (t := 6) C dX1_give_27 28 rfl (ct_roomsA hR ht) (by decide) (ct_roomsN hR ht) rfl (by omega) (by decide) (cm_elt hR ht hr) ?_
      refine x_geti C fl_X1_196 (Or.inr (Or.inl rfl)) dX1_give_28 31 rfl (cm_T hR ht hr) (cm_held hR ht hr) ?_
      refine x_ifeq C dX1_give_31 34 47 rfl (by decide) (fun h31 => ?_) (fun h31 => ?_)
      · refine x_icm C dX1_give_47 48 rfl ?_
        exact x_iret C dX1_give_48 (Nat.le_refl _) (Nat.le_refl _) (Qp_n hR (by simp [sp_give, opB, no1, h5, h6, et, er, h14, h31]))
      · refine x_aloadr_n C dX1_give_34 35 rfl rfl ?_
        refine x_getr C fl_X1_17 (Or.inr ⟨_, rfl⟩) dX1_give_35 38 rfl hC.1 (coR_towns hC) ?_
        refine x_iload_n C dX1_give_38 39 rfl rfl ?_
        refine x_aaldr (t := 5) C dX1_give_39 40 rfl (coA_towns hC) (by decide) (coN_towns hC) rfl (by omega) (by decide) (ct_elt hR ht) ?_
        refine x_iload_n C dX1_give_40 41 rfl rfl ?_
        refine x_callV C lk_X1_226 dX1_give_41 44 rfl [_] [] rfl rfl (ct_T hR ht) (Nat.le_of_ble_eq_true rfl) (by decide) (Nat.le_refl _) (Nat.le_refl _) (kX5_inside hR hI hL ht (by omega)) ?_
        rintro _ _ _ _ ⟨rfl, rfl, rfl, rfl⟩
        refine x_ifeqN C dX1_give_44 47 49 rfl (by decide) (by have := si_lt T t (nI r) hp10; omega) (fun h44 => ?_) (fun h44 => ?_)
        · have e44 := eq_true h44
          refine x_aloadr_n C dX1_give_49 50 rfl rfl ?_
          refine x_iload_n C dX1_give_50 51 rfl rfl ?_
          refine x_iload_n C dX1_give_51 52 rfl rfl ?_
          refine x_ic (j := 0) C dX1_give_52 53 rfl ?_
          refine x_callV C lk_X1_360 dX1_give_53 56 rfl [_, _, _] [] rfl rfl hC.1 (Nat.le_of_ble_eq_true rfl) (by decide) (Nat.le_refl _) (Nat.le_refl _) (kX1_costs hR hI hL ht hr) ?_
          rintro _ _ M _ ⟨rfl, rfl, rfl, hM, hf⟩
          refine x_istore_n C dX1_give_56 57 rfl [_, _, _, _] (by decide) rfl rfl ?_
          refine x_aloadr_n C dX1_give_57 58 rfl rfl ?_
          refine x_getr C fl_X1_17 (Or.inr ⟨_, rfl⟩) dX1_give_58 61 rfl hC.1 (coR_towns hC) ?_
          refine x_iload_n C dX1_give_61 62 rfl rfl ?_
          refine x_aaldr (t := 5) C dX1_give_62 63 rfl (coA_towns hC) (by decide) (coN_towns hC) rfl (by omega) (by decide) (ct_elt hR ht) ?_
          refine x_getr C fl_X1_187 (Or.inr ⟨_, rfl⟩) dX1_give_63 66 rfl (ct_T hR ht) (ct_rooms hR ht) ?_
          refine x_iload_n C dX1_give_66 67 rfl rfl ?_
          refine x_aaldr (t := 6) C dX1_give_67 68 rfl (ct_roomsA hR ht) (by decide) (ct_roomsN hR ht) rfl (by omega) (by decide) (cm_elt hR ht hr) ?_
          refine x_ic (j := 0) C dX1_give_68 69 rfl ?_
          refine x_puti C fl_X1_196 (Or.inr ⟨Or.inl rfl, ⟨rfl, rfl⟩⟩) (Or.inl rfl) dX1_give_69 72 rfl (cm_T hR ht hr) ?_
          refine x_iload_n C dX1_give_72 73 rfl rfl ?_
          exact x_iret C dX1_give_73 (Nat.le_refl _) (Nat.le_refl _) (Qp_s (by simp [sp_give, opB, gvC, h5, h6, et, er, h14, h31, e44]; rw [sto_comm (by decide)]) (CoR_held hM hI ht hr (nI 0)) (fz_sto hf (by omega)))
        · refine x_icm C dX1_give_47 48 rfl ?_
          exact x_iret C dX1_give_48 (Nat.le_refl _) (Nat.le_refl _) (Qp_n hR (by simp [sp_give, opB, no1, h5, h6, et, er, h14, h31, h44]))
theorem kX1_buy (hR : CoR K S I T) (hI : Tok T) (hL : LsOk T) {t r : Int32} : Ct w l yX1_buy cX1_buy 4 (some .int) 505 0 0 [.ref 0, .int t, .int r] S I J (Qp (sp_buy T t r) S I J 0) := by
  refine Ct.of [some _, some _, some _, none] rfl (Nat.le_of_ble_eq_true rfl) (by decide) ?_
  intro κ hκ C
  subst hκ
  have hC := cr_S hR
  have hp10 := tk_p2 hI
  have ht6 := tk_t2 hI
  have hg30 := tk_g2 hI
  have hc30 := tk_c2 hI
  have hn500 := tk_n2 hI
  refine x_aloadr_n C dX1_buy_0 1 rfl rfl ?_
  refine x_iload_n C dX1_buy_1 2 rfl rfl ?_
  refine x_iload_n C dX1_buy_2 3 rfl rfl ?_
  refine x_callV C lk_X1_222 dX1_buy_3 6 rfl [_, _] [] rfl rfl hC.1 (Nat.le_of_ble_eq_true rfl) (by decide) (Nat.le_refl _) (Nat.le_refl _) (kX1_isRoom hR hI) ?_
  rintro _ _ _ _ ⟨rfl, rfl, rfl, rfl⟩
  refine x_ifeqZ C dX1_buy_6 9 34 rfl (by decide) (fun q6 => ?_) (fun q6 => ?_)
  · refine x_icm C dX1_buy_34 35 rfl ?_
    exact x_iret C dX1_buy_35 (Nat.le_refl _) (Nat.le_refl _) (Qp_n hR (by have q6 := Bool.and_eq_false_iff.mp q6; unfold sp_buy opB; rw [if_neg (by rcases q6 with q | q <;> simp [q])]; rfl))
  · obtain ⟨h5, h6⟩ := Bool.and_eq_true_iff.mp q6
    obtain ⟨t, ht, rfl⟩ := to_I hI h5
    have et : nt (nI t) = t := nt_nI (by omega)
    rw [et] at h6
    have h6' := h6
    have hr10 := tk_r2 hI (show t < 6 by omega)
    rw [tk_r hI (by omega)] at h6'
    obtain ⟨r, hr, rfl⟩ := in_of h6' (by omega)
    have er : nt (nI r) = r := nt_nI (by omega)
    have h520 := (cr_ly hR).2.2.2.2.2.1 t r ht hr
    refine x_aloadr_n C dX1_buy_9 10 rfl rfl ?_
    refine x_iload_n C dX1_buy_10 11 rfl rfl ?_
    refine x_callV C lk_X1_157 dX1_buy_11 14 rfl [_] [] rfl rfl hC.1 (Nat.le_of_ble_eq_true rfl) (by decide) (Nat.le_refl _) (Nat.le_refl _) (kX1_isOver hR hI ht) ?_
    rintro _ _ _ _ ⟨rfl, rfl, rfl, rfl⟩
    refine x_ifneZ C dX1_buy_14 17 34 rfl (by decide) (fun h14 => ?_) (fun h14 => ?_)
    · refine x_icm C dX1_buy_34 35 rfl ?_
      exact x_iret C dX1_buy_35 (Nat.le_refl _) (Nat.le_refl _) (Qp_n hR (by simp [sp_buy, opB, no1, h5, h6, et, er, h14]))
    · refine x_aloadr_n C dX1_buy_17 18 rfl rfl ?_
      refine x_getr C fl_X1_17 (Or.inr ⟨_, rfl⟩) dX1_buy_18 21 rfl hC.1 (coR_towns hC) ?_
      refine x_iload_n C dX1_buy_21 22 rfl rfl ?_
      refine x_aaldr (t := 5) C dX1_buy_22 23 rfl (coA_towns hC) (by decide) (coN_towns hC) rfl (by omega) (by decide) (ct_elt hR ht) ?_
      refine x_getr C fl_X1_187 (Or.inr ⟨_, rfl⟩) dX1_buy_23 26 rfl (ct_T hR ht) (ct_rooms hR ht) ?_
      refine x_iload_n C dX1_buy_26 27 rfl rfl ?_
      refine x_aaldr (t := 6) C dX1_buy_27 28 rfl (ct_roomsA hR ht) (by decide) (ct_roomsN hR ht) rfl (by omega) (by decide) (cm_elt hR ht hr) ?_
      refine x_geti C fl_X1_196 (Or.inr (Or.inl rfl)) dX1_buy_28 31 rfl (cm_T hR ht hr) (cm_held hR ht hr) ?_
      refine x_ifeq C dX1_buy_31 34 36 rfl (by decide) (fun h31 => ?_) (fun h31 => ?_)
      · have e31 := eq_true h31
        refine x_aloadr_n C dX1_buy_36 37 rfl rfl ?_
        refine x_iload_n C dX1_buy_37 38 rfl rfl ?_
        refine x_iload_n C dX1_buy_38 39 rfl rfl ?_
        refine x_ic (j := 1) C dX1_buy_39 40 rfl ?_
        refine x_callV C lk_X1_360 dX1_buy_40 43 rfl [_, _, _] [] rfl rfl hC.1 (Nat.le_of_ble_eq_true rfl) (by decide) (Nat.le_refl _) (Nat.le_refl _) (kX1_costs hR hI hL ht hr) ?_
        rintro _ _ M _ ⟨rfl, rfl, rfl, hM, hf⟩
        refine x_istore_n C dX1_buy_43 44 rfl [_, _, _, _] (by decide) rfl rfl ?_
        refine x_aloadr_n C dX1_buy_44 45 rfl rfl ?_
        refine x_getr C fl_X1_17 (Or.inr ⟨_, rfl⟩) dX1_buy_45 48 rfl hC.1 (coR_towns hC) ?_
        refine x_iload_n C dX1_buy_48 49 rfl rfl ?_
        refine x_aaldr (t := 5) C dX1_buy_49 50 rfl (coA_towns hC) (by decide) (coN_towns hC) rfl (by omega) (by decide) (ct_elt hR ht) ?_
        refine x_getr C fl_X1_187 (Or.inr ⟨_, rfl⟩) dX1_buy_50 53 rfl (ct_T hR ht) (ct_rooms hR ht) ?_
        refine x_iload_n C dX1_buy_53 54 rfl rfl ?_
        refine x_aaldr (t := 6) C dX1_buy_54 55 rfl (ct_roomsA hR ht) (by decide) (ct_roomsN hR ht) rfl (by omega) (by decide) (cm_elt hR ht hr) ?_
        refine x_ic (j := 1) C dX1_buy_55 56 rfl ?_
        refine x_puti C fl_X1_196 (Or.inr ⟨Or.inl rfl, ⟨rfl, rfl⟩⟩) (Or.inl rfl) dX1_buy_56 59 rfl (cm_T hR ht hr) ?_
        refine x_iload_n C dX1_buy_59 60 rfl rfl ?_
        exact x_iret C dX1_buy_60 (Nat.le_refl _) (Nat.le_refl _) (Qp_s (by simp [sp_buy, opB, byC, h5, h6, et, er, h14, e31]; rw [sto_comm (by decide)]) (CoR_held hM hI ht hr (nI 1)) (fz_sto hf (by omega)))
      · refine x_icm C dX1_buy_34 35 rfl ?_
        exact x_iret C dX1_buy_35 (Nat.le_refl _) (Nat.le_refl _) (Qp_n hR (by simp [sp_buy, opB, no1, h5, h6, et, er, h14, h31]))
end Co36
