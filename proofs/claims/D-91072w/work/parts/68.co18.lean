/-! the component: sights, ways, the tape -/
section
variable {K : Ly} {S : Sh} {I I' T T' : Mi}
theorem CoR_fx (h : CoR K S I T) (hi : ∀ a, 473 ≤ a → I' a = I a) (him : ∀ a, immT (S.1 a) → I' a = I a) (ht : ∀ b, b ∈ [474, 475, 476, 477, 478, 479, 480, 481, 482, 483, 484, 485, 486, 487, 488, 489, 490, 497, 504, 505, 506] → T' b = T b) (h1 : T' 473 1 = T 473 1) (h11 : T' 473 11 = T 473 11) (hsc : coSc I' T') (hno : coNo I' T') (htp : coTp I' T') (hbk : coBk I' T') (htr : coTr I' T') : CoR K S I' T' := by
  refine CoR_mem h hsc (by show nt _ = nt _; rw [h1]) (by show nt _ = nt _; rw [h11]) (fun t _ => by show nt _ = nt _; rw [ht 485 (by decide)]) (fun p hp => perR_k (cr_pe h hp) (hi _ (by have := (cr_ly h).2.2.2.1 p hp; omega)) (fun b hb => ht b ?_)) (fun t htt => towR_k (cr_to h htt) (hi _ (by have := (cr_ly h).2.2.2.2.1 t htt; omega)) (hi _ (by have := (cr_ly h).2.2.2.2.1 t htt; omega)) (fun r hr => hi _ (by have := (cr_ly h).2.2.2.2.2.1 t r htt hr; omega)) (fun b hb => ht b ?_)) him ⟨ht _ (by decide), ht _ (by decide)⟩ (ht _ (by decide)) hno htp hbk htr
  · simp only [List.mem_cons, List.not_mem_nil, or_false] at hb ⊢
    omega
  · simp only [List.mem_cons, List.not_mem_nil, or_false] at hb ⊢
    omega
theorem ht_mem {b c : Nat} {l : List Nat} (hb : b ∈ l) (hc : c ∉ l) : b ≠ c := fun e => hc (e ▸ hb)
/-- a way -/
theorem CoR_way (h : CoR K S I T) {a b : Nat} (ha : a < 7) (hb : b < 7) (v : Int32) : CoR K S (sto I (462 + a) b v) (sto T 513 (7 * a + b) v) := by
  have hC := cr_S h
  have hi : ∀ x, x ≠ 462 + a → sto I (462 + a) b v x = I x := fun x hx => sto_n _ _ _ hx
  refine CoR_fx h (fun x hx => hi x (by omega)) (im_sto (hC.2.2.2.2.2.2.2 a ha).2.1 ni_100 im_rfl) (fun c hc => sto_n _ _ _ (ht_mem hc (by decide))) rfl rfl ?_ (coNo_k (cr_no h) ⟨hi _ (by omega), hi _ (by omega), hi _ (by omega), hi _ (by omega)⟩ rfl ⟨rfl, rfl, rfl⟩) (coTp_k (cr_tp h) (hi _ (by omega)) rfl rfl) (coBk_k (cr_bk h) (fun x q1 q2 => hi x (by omega)) ⟨rfl, rfl, rfl⟩) ?_
  · have := h.2.1
    unfold coSc at this ⊢
    rw [hi 0 (by omega)]
    exact this
  · refine ⟨fun i q => ?_, fun i j q1 q2 => ?_, fun i q => ?_⟩
    · rw [hi 458 (by omega), hi 459 (by omega), hi 460 (by omega)]
      exact (cr_tr h).1 i q
    · rw [sto_at, sto_at]
      by_cases e : i = a ∧ j = b
      · rw [if_pos ⟨by omega, e.2⟩, if_pos ⟨rfl, by omega⟩]
      · rw [if_neg (by omega), if_neg (by omega)]
        exact (cr_tr h).2.1 i j q1 q2
    · rw [hi 471 (by omega), hi 472 (by omega)]
      exact (cr_tr h).2.2 i q
theorem CoR_sights (h : CoR K S I T) (v : Int32) : CoR K S (sto I 0 30 v) (sto T 473 63 v) := by
  refine CoR_sc h (fun a ha => sto_n _ _ _ ha) (fun b hb => sto_n _ _ _ hb) ?_ rfl rfl rfl rfl
  obtain ⟨g1, g2, g3, g4, g5, g6, g7, g8, g9, g10, g11, g12, g13, g14, g15, g16⟩ := h.2.1
  exact ⟨g1, g2, g3, g4, g5, g6, g7, g8, g9, g10, g11, rfl, g13, g14, g15, g16⟩
theorem CoR_sight (h : CoR K S I T) {k : Nat} (o s d : Int32) : CoR K S (sto (sto (sto I 458 k o) 459 k s) 460 k d) (sto (sto (sto T 510 k o) 511 k s) 512 k d) := by
  have hC := cr_S h
  have hi : ∀ x, x ≠ 458 → x ≠ 459 → x ≠ 460 → sto (sto (sto I 458 k o) 459 k s) 460 k d x = I x := fun x h1 h2 h3 => by rw [sto_n _ _ _ h3, sto_n _ _ _ h2, sto_n _ _ _ h1]
  refine CoR_fx h (fun x hx => hi x (by omega) (by omega) (by omega)) (im_sto (coA_stays hC) ni_100 (im_sto (coA_shuts hC) ni_100 (im_sto (coA_opens hC) ni_100 im_rfl))) (fun c hc => by rw [sto_n _ _ _ (ht_mem hc (by decide)), sto_n _ _ _ (ht_mem hc (by decide)), sto_n _ _ _ (ht_mem hc (by decide))]) rfl rfl ?_ (coNo_k (cr_no h) ⟨hi _ (by omega) (by omega) (by omega), hi _ (by omega) (by omega) (by omega), hi _ (by omega) (by omega) (by omega), hi _ (by omega) (by omega) (by omega)⟩ rfl ⟨rfl, rfl, rfl⟩) (coTp_k (cr_tp h) (hi _ (by omega) (by omega) (by omega)) rfl rfl) (coBk_k (cr_bk h) (fun x q1 q2 => hi x (by omega) (by omega) (by omega)) ⟨rfl, rfl, rfl⟩) ?_
  · have := h.2.1
    unfold coSc at this ⊢
    rw [hi 0 (by omega) (by omega) (by omega)]
    exact this
  · refine ⟨fun i q => ?_, fun i j q1 q2 => ?_, fun i q => ?_⟩
    · have := (cr_tr h).1 i q
      rw [show sto (sto (sto I 458 k o) 459 k s) 460 k d 458 = sto I 458 k o 458 from rfl, show sto (sto (sto I 458 k o) 459 k s) 460 k d 459 = sto (sto I 458 k o) 459 k s 459 from rfl, show sto (sto (sto T 510 k o) 511 k s) 512 k d 510 = sto T 510 k o 510 from rfl, show sto (sto (sto T 510 k o) 511 k s) 512 k d 511 = sto (sto T 510 k o) 511 k s 511 from rfl]
      simp only [sto_at, true_and]
      by_cases e : i = k
      · simp [e]
      · simp [e, this]
    · rw [hi (462 + i) (by omega) (by omega) (by omega)]
      exact (cr_tr h).2.1 i j q1 q2
    · exact (cr_tr h).2.2 i q
end
section Co18
variable {w : Wd} {l : Launch} {K : Ly} {S : Sh} {I T : Mi} {J : Ml}
theorem kX1_sight (hR : CoR K S I T) (hI : Tok T) {o s d : Int32} : Ct w l yX1_sight cX1_sight 4 (some .int) 2 0 0 [.ref 0, .int o, .int s, .int d] S I J (Qp (sp_sight T o s d) S I J 0) := by
  refine Ct.of [some _, some _, some _, some _] rfl (Nat.le_of_ble_eq_true rfl) (by decide) ?_
  intro κ hκ C
  subst hκ
  have hC := cr_S hR
  have hp10 := tk_p2 hI
  have ht6 := tk_t2 hI
  have hg30 := tk_g2 hI
  have hc30 := tk_c2 hI
  have hn500 := tk_n2 hI
  refine x_iload_n C dX1_sight_0 1 rfl rfl ?_
  refine x_ic (j := 0) C dX1_sight_1 2 rfl ?_
  refine x_sip (j := 1440) C dX1_sight_2 5 rfl (by decide) ?_
  refine x_callS C lk_X1_108 dX1_sight_5 8 rfl [_, _, _] [] rfl rfl (Nat.le_of_ble_eq_true rfl) (by decide) (Nat.le_refl _) (Nat.le_refl _) kX1_in ?_
  rintro _ _ _ _ ⟨rfl, rfl, rfl, rfl⟩
  refine x_ifeqZ C dX1_sight_8 11 49 rfl (by decide) (fun h8 => ?_) (fun h8 => ?_)
  · refine x_icm C dX1_sight_49 50 rfl ?_
    exact x_iret C dX1_sight_50 (Nat.le_refl _) (Nat.le_refl _) (Qp_n hR (by simp [sp_sight, no1, h8]))
  · refine x_iload_n C dX1_sight_11 12 rfl rfl ?_
    refine x_ic (j := 0) C dX1_sight_12 13 rfl ?_
    refine x_sip (j := 1440) C dX1_sight_13 16 rfl (by decide) ?_
    refine x_callS C lk_X1_108 dX1_sight_16 19 rfl [_, _, _] [] rfl rfl (Nat.le_of_ble_eq_true rfl) (by decide) (Nat.le_refl _) (Nat.le_refl _) kX1_in ?_
    rintro _ _ _ _ ⟨rfl, rfl, rfl, rfl⟩
    refine x_ifeqZ C dX1_sight_19 22 49 rfl (by decide) (fun h19 => ?_) (fun h19 => ?_)
    · refine x_icm C dX1_sight_49 50 rfl ?_
      exact x_iret C dX1_sight_50 (Nat.le_refl _) (Nat.le_refl _) (Qp_n hR (by simp [sp_sight, no1, h8, h19]))
    · refine x_iload_n C dX1_sight_22 23 rfl rfl ?_
      refine x_ic (j := 1) C dX1_sight_23 24 rfl ?_
      refine x_sip (j := 300) C dX1_sight_24 27 rfl (by decide) ?_
      refine x_callS C lk_X1_108 dX1_sight_27 30 rfl [_, _, _] [] rfl rfl (Nat.le_of_ble_eq_true rfl) (by decide) (Nat.le_refl _) (Nat.le_refl _) kX1_in ?_
      rintro _ _ _ _ ⟨rfl, rfl, rfl, rfl⟩
      refine x_ifeqZ C dX1_sight_30 33 49 rfl (by decide) (fun h30 => ?_) (fun h30 => ?_)
      · refine x_icm C dX1_sight_49 50 rfl ?_
        exact x_iret C dX1_sight_50 (Nat.le_refl _) (Nat.le_refl _) (Qp_n hR (by simp [sp_sight, no1, h8, h19, h30]))
      · refine x_iload_n C dX1_sight_33 34 rfl rfl ?_
        refine x_iload_n C dX1_sight_34 35 rfl rfl ?_
        refine x_iadd C dX1_sight_35 36 rfl rfl ?_
        refine x_iload_n C dX1_sight_36 37 rfl rfl ?_
        refine x_icmpgt C dX1_sight_37 40 49 rfl (by decide) (fun h37 => ?_) (fun h37 => ?_)
        · refine x_icm C dX1_sight_49 50 rfl ?_
          exact x_iret C dX1_sight_50 (Nat.le_refl _) (Nat.le_refl _) (Qp_n hR (by simp [sp_sight, no1, h8, h19, h30, h37]))
        · refine x_aloadr_n C dX1_sight_40 41 rfl rfl ?_
          refine x_geti C fl_X1_382 (Or.inl rfl) dX1_sight_41 44 rfl hC.1 (cs_sightMany hR) ?_
          refine x_bip (j := 6) C dX1_sight_44 46 rfl (by decide) ?_
          refine x_icmpne C dX1_sight_46 49 51 rfl (by decide) (fun h46 => ?_) (fun h46 => ?_)
          · have hs6 := tk_s2 hI
            have hn : sn T < 6 := by have : ¬ sn T = 6 := fun q => h46 (by rw [tk_s hI, q]); omega
            refine x_aloadr_n C dX1_sight_51 52 rfl rfl ?_
            refine x_dup C dX1_sight_52 53 rfl rfl ?_
            refine x_geti C fl_X1_382 (Or.inl rfl) dX1_sight_53 56 rfl hC.1 ((cs_sightMany hR).trans (tk_s hI)) ?_
            refine x_ic (j := 1) C dX1_sight_56 57 rfl ?_
            refine x_iadd C dX1_sight_57 58 rfl (nI_add _ _) ?_
            refine x_puti C fl_X1_382 (Or.inl rfl) (Or.inl rfl) dX1_sight_58 61 rfl hC.1 ?_
            refine x_aloadr_n C dX1_sight_61 62 rfl rfl ?_
            refine x_getr C fl_X1_78 (Or.inr ⟨_, rfl⟩) dX1_sight_62 65 rfl hC.1 (coR_opens hC) ?_
            refine x_aloadr_n C dX1_sight_65 66 rfl rfl ?_
            refine x_geti C fl_X1_382 (Or.inl rfl) dX1_sight_66 69 rfl hC.1 (sto_ss _ _ _ _) ?_
            refine x_iload_n C dX1_sight_69 70 rfl rfl ?_
            refine x_iast C dX1_sight_70 71 rfl (coA_opens hC) (coN_opens hC) rfl (by omega) (by decide) ?_
            refine x_aloadr_n C dX1_sight_71 72 rfl rfl ?_
            refine x_getr C fl_X1_81 (Or.inr ⟨_, rfl⟩) dX1_sight_72 75 rfl hC.1 (coR_shuts hC) ?_
            refine x_aloadr_n C dX1_sight_75 76 rfl rfl ?_
            refine x_geti C fl_X1_382 (Or.inl rfl) dX1_sight_76 79 rfl hC.1 (show sto I 0 30 (nI (sn T + 1)) 0 30 = _ from sto_ss _ _ _ _) ?_
            refine x_iload_n C dX1_sight_79 80 rfl rfl ?_
            refine x_iast C dX1_sight_80 81 rfl (coA_shuts hC) (coN_shuts hC) rfl (by omega) (by decide) ?_
            refine x_aloadr_n C dX1_sight_81 82 rfl rfl ?_
            refine x_getr C fl_X1_84 (Or.inr ⟨_, rfl⟩) dX1_sight_82 85 rfl hC.1 (coR_stays hC) ?_
            refine x_aloadr_n C dX1_sight_85 86 rfl rfl ?_
            refine x_geti C fl_X1_382 (Or.inl rfl) dX1_sight_86 89 rfl hC.1 (show sto I 0 30 (nI (sn T + 1)) 0 30 = _ from sto_ss _ _ _ _) ?_
            refine x_iload_n C dX1_sight_89 90 rfl rfl ?_
            refine x_iast C dX1_sight_90 91 rfl (coA_stays hC) (coN_stays hC) rfl (by omega) (by decide) ?_
            refine x_aloadr_n C dX1_sight_91 92 rfl rfl ?_
            refine x_geti C fl_X1_382 (Or.inl rfl) dX1_sight_92 95 rfl hC.1 (show sto I 0 30 (nI (sn T + 1)) 0 30 = _ from sto_ss _ _ _ _) ?_
            exact x_iret C dX1_sight_95 (Nat.le_refl _) (Nat.le_refl _) (Qp_s (by simp [sp_sight, h8, h19, h30, h37, h46]) (CoR_sight (CoR_sights hR _) o s d) (fz_sto (fz_sto (fz_sto (fz_sto fz_rfl (by decide)) (by decide)) (by decide)) (by decide)))
          · have e46 := eq_true h46
            refine x_icm C dX1_sight_49 50 rfl ?_
            exact x_iret C dX1_sight_50 (Nat.le_refl _) (Nat.le_refl _) (Qp_n hR (by simp [sp_sight, no1, h8, h19, h30, h37, e46]))
theorem kX1_way (hR : CoR K S I T) (hI : Tok T) {a b m : Int32} : Ct w l yX1_way cX1_way 4 (some .boolean) 2 0 0 [.ref 0, .int a, .int b, .int m] S I J (Qp (sp_way T a b m) S I J 0) := by
  refine Ct.of [some _, some _, some _, some _] rfl (Nat.le_of_ble_eq_true rfl) (by decide) ?_
  intro κ hκ C
  subst hκ
  have hC := cr_S hR
  have hp10 := tk_p2 hI
  have ht6 := tk_t2 hI
  have hg30 := tk_g2 hI
  have hc30 := tk_c2 hI
  have hn500 := tk_n2 hI
  have hs6 := tk_s2 hI
  refine x_iload_n C dX1_way_0 1 rfl rfl ?_
  refine x_ic (j := 0) C dX1_way_1 2 rfl ?_
  refine x_aloadr_n C dX1_way_2 3 rfl rfl ?_
  refine x_geti C fl_X1_382 (Or.inl rfl) dX1_way_3 6 rfl hC.1 (cs_sightMany hR) ?_
  refine x_callS C lk_X1_108 dX1_way_6 9 rfl [_, _, _] [] rfl rfl (Nat.le_of_ble_eq_true rfl) (by decide) (Nat.le_refl _) (Nat.le_refl _) kX1_in ?_
  rintro _ _ _ _ ⟨rfl, rfl, rfl, rfl⟩
  refine x_ifeqZ C dX1_way_9 12 40 rfl (by decide) (fun h9 => ?_) (fun h9 => ?_)
  · refine x_ic (j := 0) C dX1_way_40 41 rfl ?_
    exact x_zret C dX1_way_41 (Nat.le_refl _) (Nat.le_refl _) rfl (Qp_n hR (by simp [sp_way, no0, h9]))
  · refine x_iload_n C dX1_way_12 13 rfl rfl ?_
    refine x_ic (j := 0) C dX1_way_13 14 rfl ?_
    refine x_aloadr_n C dX1_way_14 15 rfl rfl ?_
    refine x_geti C fl_X1_382 (Or.inl rfl) dX1_way_15 18 rfl hC.1 (cs_sightMany hR) ?_
    refine x_callS C lk_X1_108 dX1_way_18 21 rfl [_, _, _] [] rfl rfl (Nat.le_of_ble_eq_true rfl) (by decide) (Nat.le_refl _) (Nat.le_refl _) kX1_in ?_
    rintro _ _ _ _ ⟨rfl, rfl, rfl, rfl⟩
    refine x_ifeqZ C dX1_way_21 24 40 rfl (by decide) (fun h21 => ?_) (fun h21 => ?_)
    · refine x_ic (j := 0) C dX1_way_40 41 rfl ?_
      exact x_zret C dX1_way_41 (Nat.le_refl _) (Nat.le_refl _) rfl (Qp_n hR (by simp [sp_way, no0, h9, h21]))
    · refine x_iload_n C dX1_way_24 25 rfl rfl ?_
      refine x_iload_n C dX1_way_25 26 rfl rfl ?_
      refine x_icmpeq C dX1_way_26 29 40 rfl (by decide) (fun h26 => ?_) (fun h26 => ?_)
      · have e26 := eq_true h26
        refine x_ic (j := 0) C dX1_way_40 41 rfl ?_
        exact x_zret C dX1_way_41 (Nat.le_refl _) (Nat.le_refl _) rfl (Qp_n hR (by simp [sp_way, no0, h26]))
      · refine x_iload_n C dX1_way_29 30 rfl rfl ?_
        refine x_ic (j := 0) C dX1_way_30 31 rfl ?_
        refine x_sip (j := 270) C dX1_way_31 34 rfl (by decide) ?_
        refine x_callS C lk_X1_108 dX1_way_34 37 rfl [_, _, _] [] rfl rfl (Nat.le_of_ble_eq_true rfl) (by decide) (Nat.le_refl _) (Nat.le_refl _) kX1_in ?_
        rintro _ _ _ _ ⟨rfl, rfl, rfl, rfl⟩
        refine x_ifneZ C dX1_way_37 40 42 rfl (by decide) (fun h37 => ?_) (fun h37 => ?_)
        · have h9' := h9
          have h21' := h21
          rw [tk_s hI] at h9' h21'
          obtain ⟨a, -, ha, rfl⟩ := in_ex (by decide) (by omega) h9'
          obtain ⟨b, -, hb, rfl⟩ := in_ex (by decide) (by omega) h21'
          have ea : nt (nI a) = a := nt_nI (by omega)
          have eb : nt (nI b) = b := nt_nI (by omega)
          have hg := hC.2.2.2.2.2.2.2 a (by omega)
          refine x_aloadr_n C dX1_way_42 43 rfl rfl ?_
          refine x_getr C fl_X1_87 (Or.inr ⟨_, rfl⟩) dX1_way_43 46 rfl hC.1 (coR_ways hC) ?_
          refine x_iload_n C dX1_way_46 47 rfl rfl ?_
          refine x_aaldr (t := 8) C dX1_way_47 48 rfl (coA_ways hC) (by decide) (coN_ways hC) rfl (by omega) (by decide) hg.1 ?_
          refine x_iload_n C dX1_way_48 49 rfl rfl ?_
          refine x_iload_n C dX1_way_49 50 rfl rfl ?_
          refine x_iast C dX1_way_50 51 rfl hg.2.1 hg.2.2 rfl (by omega) (by decide) ?_
          refine x_ic (j := 1) C dX1_way_51 52 rfl ?_
          exact x_zret C dX1_way_52 (Nat.le_refl _) (Nat.le_refl _) rfl (Qp_s (by simp [sp_way, ea, eb, h9, h21, h26, h37]) (CoR_way hR (by omega) (by omega) _) (fz_sto fz_rfl (by omega)))
        · refine x_ic (j := 0) C dX1_way_40 41 rfl ?_
          exact x_zret C dX1_way_41 (Nat.le_refl _) (Nat.le_refl _) rfl (Qp_n hR (by simp [sp_way, no0, h9, h21, h26, h37]))
theorem kX1_clear (hR : CoR K S I T) (hI : Tok T) : Ct w l yX1_clear cX1_clear 4 (some .int) 1 0 0 [.ref 0] S I J (Qp (sp_clear T) S I J 0) := by
  refine Ct.of [some _, none, none, none] rfl (Nat.le_of_ble_eq_true rfl) (by decide) ?_
  intro κ hκ C
  subst hκ
  have hC := cr_S hR
  have hp10 := tk_p2 hI
  have ht6 := tk_t2 hI
  have hg30 := tk_g2 hI
  have hc30 := tk_c2 hI
  have hn500 := tk_n2 hI
  have hl : ∀ (j k : Nat) (M : Mi), k + j = 7 → CoR K S M (clrS T (7 * k)) → fzI I M → XX w κ (Zr w κ (Qp (sp_clear T) S I J 0)) 0 0 12 [some (.ref 0), some (.int (T 473 63)), some (.int (nI k)), none] [] S M J := by
    intro j
    induction j with
    | zero =>
      intro k M e hM hf
      have e : k = 7 := e
      subst e
      refine x_iload_n C dX1_clear_12 13 rfl rfl ?_
      refine x_bip (j := 6) C dX1_clear_13 15 rfl (by decide) ?_
      refine x_icmpgtN C dX1_clear_15 18 47 rfl (by decide) (by omega) (by omega) (fun _ => ?_) (fun h15 => absurd h15 (by decide))
      refine x_iload_n C dX1_clear_47 48 rfl rfl ?_
      exact x_iret C dX1_clear_48 (Nat.le_refl _) (Nat.le_refl _) (Qp_s rfl hM hf)
    | succ j ih =>
      intro k M e hM hf
      have hg := hC.2.2.2.2.2.2.2 k (by omega)
      have hl2 : ∀ (j i : Nat) (M : Mi), i + j = 7 → CoR K S M (clrS T (7 * k + i)) → fzI I M → XX w κ (Zr w κ (Qp (sp_clear T) S I J 0)) 0 0 20 [some (.ref 0), some (.int (T 473 63)), some (.int (nI k)), some (.int (nI i))] [] S M J := by
        intro j
        induction j with
        | zero =>
          intro i M e hM hf
          have e : i = 7 := e
          subst e
          refine x_iload_n C dX1_clear_20 21 rfl rfl ?_
          refine x_bip (j := 6) C dX1_clear_21 23 rfl (by decide) ?_
          refine x_icmpgtN C dX1_clear_23 26 41 rfl (by decide) (by omega) (by omega) (fun _ => ?_) (fun h23 => absurd h23 (by decide))
          refine x_iinc C dX1_clear_41 44 rfl [_, _, _, _] (nI_inc _) (by decide) rfl rfl rfl ?_
          refine x_goto C dX1_clear_44 12 (by decide) ?_
          refine x_ls [some _, some _, some _, none] ⟨rfl, rfl, rfl, trivial⟩ ?_
          exact ih (k + 1) _ (by omega) hM hf
        | succ j ih2 =>
          intro i M e hM hf
          have h2 := CoR_way hM (a := k) (b := i) (by omega) (by omega) (nI 0)
          refine x_iload_n C dX1_clear_20 21 rfl rfl ?_
          refine x_bip (j := 6) C dX1_clear_21 23 rfl (by decide) ?_
          refine x_icmpgtN C dX1_clear_23 26 41 rfl (by decide) (by omega) (by omega) (fun h23 => absurd h23 (by omega)) (fun _ => ?_)
          refine x_aloadr_n C dX1_clear_26 27 rfl rfl ?_
          refine x_getr C fl_X1_87 (Or.inr ⟨_, rfl⟩) dX1_clear_27 30 rfl hC.1 (coR_ways hC) ?_
          refine x_iload_n C dX1_clear_30 31 rfl rfl ?_
          refine x_aaldr (t := 8) C dX1_clear_31 32 rfl (coA_ways hC) (by decide) (coN_ways hC) rfl (by omega) (by decide) hg.1 ?_
          refine x_iload_n C dX1_clear_32 33 rfl rfl ?_
          refine x_ic (j := 0) C dX1_clear_33 34 rfl ?_
          refine x_iast C dX1_clear_34 35 rfl hg.2.1 hg.2.2 rfl (by omega) (by decide) ?_
          refine x_iinc C dX1_clear_35 38 rfl [_, _, _, _] (nI_inc _) (by decide) rfl rfl rfl ?_
          refine x_goto C dX1_clear_38 20 (by decide) ?_
          exact ih2 (i + 1) _ (by omega) h2 (fz_sto hf (by omega))
      refine x_iload_n C dX1_clear_12 13 rfl rfl ?_
      refine x_bip (j := 6) C dX1_clear_13 15 rfl (by decide) ?_
      refine x_icmpgtN C dX1_clear_15 18 47 rfl (by decide) (by omega) (by omega) (fun h15 => absurd h15 (by omega)) (fun _ => ?_)
      refine x_ic (j := 0) C dX1_clear_18 19 rfl ?_
      refine x_istore_n C dX1_clear_19 20 rfl [_, _, _, _] (by decide) rfl rfl ?_
      exact hl2 7 0 _ rfl hM hf
  refine x_aloadr_n C dX1_clear_0 1 rfl rfl ?_
  refine x_geti C fl_X1_382 (Or.inl rfl) dX1_clear_1 4 rfl hC.1 (cs_sightMany hR) ?_
  refine x_istore_n C dX1_clear_4 5 rfl [_, _, _, _] (by decide) rfl rfl ?_
  refine x_aloadr_n C dX1_clear_5 6 rfl rfl ?_
  refine x_ic (j := 0) C dX1_clear_6 7 rfl ?_
  refine x_puti C fl_X1_382 (Or.inl rfl) (Or.inl rfl) dX1_clear_7 10 rfl hC.1 ?_
  refine x_ic (j := 0) C dX1_clear_10 11 rfl ?_
  refine x_istore_n C dX1_clear_11 12 rfl [_, _, _, _] (by decide) rfl rfl ?_
  exact hl 7 0 _ rfl (CoR_sights hR (nI 0)) (fz_sto fz_rfl (by decide))
end Co18
