/-! the component: more that is told; what an update leaves -/
def trOk (T : Mi) : Prop := nOk (T 473 71) 6
section Co5
variable {w : Wd} {l : Launch} {K : Ly} {S : Sh} {I T : Mi} {J : Ml}
theorem kX1_lay (hR : CoR K S I T) (hI : Tok T) {k p : Int32} : Ct w l yX1_lay cX1_lay 3 (some .int) 3 0 0 [.ref 0, .int k, .int p] S I J (Qe (some (.int (sp_lay T k p))) S I J) := by
  refine Ct.of [some _, some _, some _] rfl (Nat.le_of_ble_eq_true rfl) (by decide) ?_
  intro κ hκ C
  subst hκ
  have hC := cr_S hR
  have hp10 := tk_p2 hI
  have ht6 := tk_t2 hI
  have hg30 := tk_g2 hI
  have hc30 := tk_c2 hI
  have hn500 := tk_n2 hI
  refine x_iload_n C dX1_lay_0 1 rfl rfl ?_
  refine x_ic (j := 0) C dX1_lay_1 2 rfl ?_
  refine x_aloadr_n C dX1_lay_2 3 rfl rfl ?_
  refine x_geti C fl_X1_115 (Or.inl rfl) dX1_lay_3 6 rfl hC.1 (cs_closed hR) ?_
  refine x_ic (j := 1) C dX1_lay_6 7 rfl ?_
  refine x_isub C dX1_lay_7 8 rfl rfl ?_
  refine x_callS C lk_X1_108 dX1_lay_8 11 rfl [_, _, _] [] rfl rfl (Nat.le_of_ble_eq_true rfl) (by decide) (Nat.le_refl _) (Nat.le_refl _) kX1_in ?_
  rintro _ _ _ _ ⟨rfl, rfl, rfl, rfl⟩
  refine x_ifeqZ C dX1_lay_11 14 33 rfl (by decide) (fun h11 => ?_) (fun h11 => ?_)
  · refine x_icm C dX1_lay_33 34 rfl ?_
    exact x_iret C dX1_lay_34 (Nat.le_refl _) (Nat.le_refl _) (Qe_of (by simp [sp_lay, h11]))
  · refine x_aloadr_n C dX1_lay_14 15 rfl rfl ?_
    refine x_iload_n C dX1_lay_15 16 rfl rfl ?_
    refine x_callV C lk_X1_134 dX1_lay_16 19 rfl [_] [] rfl rfl hC.1 (Nat.le_of_ble_eq_true rfl) (by decide) (Nat.le_refl _) (Nat.le_refl _) (kX1_isPerson hR) ?_
    rintro _ _ _ _ ⟨rfl, rfl, rfl, rfl⟩
    refine x_ifeqZ C dX1_lay_19 22 33 rfl (by decide) (fun h19 => ?_) (fun h19 => ?_)
    · refine x_icm C dX1_lay_33 34 rfl ?_
      exact x_iret C dX1_lay_34 (Nat.le_refl _) (Nat.le_refl _) (Qe_of (by simp [sp_lay, h11, h19]))
    · obtain ⟨k, hk, rfl⟩ := in_of (m := cl T) (by rw [← tk_c hI]; exact h11) (by omega)
      obtain ⟨p, hp, rfl⟩ := pe_I hI h19
      have ek : nt (nI k) = k := nt_nI (by omega)
      have ep : nt (nI p) = p := nt_nI (by omega)
      have hg := hC.2.2.2.1 k (by omega)
      refine x_aloadr_n C dX1_lay_22 23 rfl rfl ?_
      refine x_getr C fl_X1_59 (Or.inr ⟨_, rfl⟩) dX1_lay_23 26 rfl hC.1 (coR_lay hC) ?_
      refine x_iload_n C dX1_lay_26 27 rfl rfl ?_
      refine x_aaldr (t := 8) C dX1_lay_27 28 rfl (coA_lay hC) (by decide) (coN_lay hC) rfl (by omega) (by decide) hg.1 ?_
      refine x_iload_n C dX1_lay_28 29 rfl rfl ?_
      refine x_iald C dX1_lay_29 30 rfl hg.2.1 hg.2.2 rfl (by omega) (by decide) ((cr_bk hR).1 k p (by omega) (by omega)).2 ?_
      refine x_goto C dX1_lay_30 34 (by decide) ?_
      exact x_iret C dX1_lay_34 (Nat.le_refl _) (Nat.le_refl _) (Qe_of (by simp [sp_lay, h11, h19, ek, ep]))
theorem kX1_tripOf (hR : CoR K S I T) (htm : trOk T) {k : Int32} : Ct w l yX1_tripOf cX1_tripOf 2 (some .int) 2 0 0 [.ref 0, .int k] S I J (Qe (some (.int (sp_tripOf T k))) S I J) := by
  have hC := cr_S hR
  have htm2 := htm.2
  have hbm := cs_bestMany hR
  have hne : ¬ nt (T 473 71) = 2 ^ 31 := by omega
  refine Ct.of [some _, some _] rfl (Nat.le_of_ble_eq_true rfl) (by decide) ?_
  intro κ hκ C
  subst hκ
  by_cases h70 : T 473 70 = 0
  · rw [if_pos h70] at hbm
    refine x_aloadr_n C dX1_tripOf_0 1 rfl rfl ?_
    refine x_geti C fl_X1_102 (Or.inl rfl) dX1_tripOf_1 4 rfl hC.1 hbm ?_
    refine x_icm C dX1_tripOf_4 5 rfl ?_
    refine x_icmpne C dX1_tripOf_5 8 10 rfl (by decide) (fun h5 => absurd h5 (not_not_intro rfl)) (fun _ => ?_)
    refine x_icm C dX1_tripOf_8 9 rfl ?_
    exact x_iret C dX1_tripOf_9 (Nat.le_refl _) (Nat.le_refl _) (Qe_of (by rw [sp_tripOf, if_pos h70]))
  · rw [if_neg h70] at hbm
    have hsp : sp_tripOf T k = if inB k (nI 10) (nI 9 + T 473 71) then T 516 (nt (k - nI 10)) else if inB k (nI 20) (nI 19 + T 473 71) then T 517 (nt (k - nI 20)) else if k = 0 then T 473 72 else if k = nI 1 then T 473 73 else if k = nI 2 then T 473 74 else -1 := by rw [sp_tripOf, if_neg h70]
    rw [hsp]
    have hno : ∀ (j b : Nat), j < 3 → b = 9 ∨ b = 19 → inB (nI j) (nI (b + 1)) (nI b + T 473 71) = false := by
      intro j b hj hb
      refine inB_lt (nI_lt (by omega) (by omega))
    refine x_aloadr_n C dX1_tripOf_0 1 rfl rfl ?_
    refine x_geti C fl_X1_102 (Or.inl rfl) dX1_tripOf_1 4 rfl hC.1 hbm ?_
    refine x_icm C dX1_tripOf_4 5 rfl ?_
    refine x_icmpne C dX1_tripOf_5 8 10 rfl (by decide) (fun _ => ?_) (fun h5 => absurd h5 (by rw [htm.1]; exact nI_m1 (by omega)))
    refine x_iload_n C dX1_tripOf_10 11 rfl rfl ?_
    refine x_sw3 C dX1_tripOf_11 36 41 46 51 (by decide) (by decide) (fun hs11 => ?_) (fun hs11 => ?_) (fun hs11 => ?_) (fun hs11 => ?_)
    · refine x_aloadr_n C dX1_tripOf_36 37 rfl rfl ?_
      refine x_geti C fl_X1_385 (Or.inl rfl) dX1_tripOf_37 40 rfl hC.1 (cs_bestEnd hR) ?_
      exact x_iret C dX1_tripOf_40 (Nat.le_refl _) (Nat.le_refl _) (Qe_of (by rw [hs11, hno 0 9 (by decide) (Or.inl rfl), hno 0 19 (by decide) (Or.inr rfl)]; simp [nI_0]))
    · refine x_aloadr_n C dX1_tripOf_41 42 rfl rfl ?_
      refine x_geti C fl_X1_388 (Or.inl rfl) dX1_tripOf_42 45 rfl hC.1 (cs_bestDriven hR) ?_
      exact x_iret C dX1_tripOf_45 (Nat.le_refl _) (Nat.le_refl _) (Qe_of (by rw [hs11, hno 1 9 (by decide) (Or.inl rfl), hno 1 19 (by decide) (Or.inr rfl)]; simp [← nI_0, nI_lit]))
    · refine x_aloadr_n C dX1_tripOf_46 47 rfl rfl ?_
      refine x_geti C fl_X1_401 (Or.inl rfl) dX1_tripOf_47 50 rfl hC.1 (cs_bestRests hR) ?_
      exact x_iret C dX1_tripOf_50 (Nat.le_refl _) (Nat.le_refl _) (Qe_of (by rw [hs11, hno 2 9 (by decide) (Or.inl rfl), hno 2 19 (by decide) (Or.inr rfl)]; simp [← nI_0, nI_lit]))
    · refine x_iload_n C dX1_tripOf_51 52 rfl rfl ?_
      refine x_bip (j := 10) C dX1_tripOf_52 54 rfl (by decide) ?_
      refine x_bip (j := 9) C dX1_tripOf_54 56 rfl (by decide) ?_
      refine x_aloadr_n C dX1_tripOf_56 57 rfl rfl ?_
      refine x_geti C fl_X1_102 (Or.inl rfl) dX1_tripOf_57 60 rfl hC.1 hbm ?_
      refine x_iadd C dX1_tripOf_60 61 rfl rfl ?_
      refine x_callS C lk_X1_108 dX1_tripOf_61 64 rfl [_, _, _] [] rfl rfl (Nat.le_of_ble_eq_true rfl) (by decide) (Nat.le_refl _) (Nat.le_refl _) kX1_in ?_
      rintro _ _ _ _ ⟨rfl, rfl, rfl, rfl⟩
      refine x_ifeqZ C dX1_tripOf_64 67 77 rfl (by decide) (fun h64 => ?_) (fun h64 => ?_)
      · refine x_iload_n C dX1_tripOf_77 78 rfl rfl ?_
        refine x_bip (j := 20) C dX1_tripOf_78 80 rfl (by decide) ?_
        refine x_bip (j := 19) C dX1_tripOf_80 82 rfl (by decide) ?_
        refine x_aloadr_n C dX1_tripOf_82 83 rfl rfl ?_
        refine x_geti C fl_X1_102 (Or.inl rfl) dX1_tripOf_83 86 rfl hC.1 hbm ?_
        refine x_iadd C dX1_tripOf_86 87 rfl rfl ?_
        refine x_callS C lk_X1_108 dX1_tripOf_87 90 rfl [_, _, _] [] rfl rfl (Nat.le_of_ble_eq_true rfl) (by decide) (Nat.le_refl _) (Nat.le_refl _) kX1_in ?_
        rintro _ _ _ _ ⟨rfl, rfl, rfl, rfl⟩
        refine x_ifeqZ C dX1_tripOf_90 93 105 rfl (by decide) (fun h90 => ?_) (fun h90 => ?_)
        · refine x_icm C dX1_tripOf_105 106 rfl ?_
          exact x_iret C dX1_tripOf_106 (Nat.le_refl _) (Nat.le_refl _) (Qe_of (by rw [if_neg (by rw [h64]; decide), if_neg (by rw [h90]; decide)]; simp [← nI_0, hs11]))
        · have h90' := h90
          rw [htm.1, nI_add] at h90'
          obtain ⟨k, hk1, hk2, rfl⟩ := in_ex (by decide) (by omega) h90'
          have e : nI k - nI 20 = nI (k - 20) := pk_sub (by omega)
          have e2 : nt (nI (k - 20)) = k - 20 := nt_nI (by omega)
          refine x_aloadr_n C dX1_tripOf_93 94 rfl rfl ?_
          refine x_getr C fl_X1_99 (Or.inr ⟨_, rfl⟩) dX1_tripOf_94 97 rfl hC.1 (coR_bestBegun hC) ?_
          refine x_iload_n C dX1_tripOf_97 98 rfl rfl ?_
          refine x_bip (j := 20) C dX1_tripOf_98 100 rfl (by decide) ?_
          refine x_isub C dX1_tripOf_100 101 rfl (pk_sub (by omega)) ?_
          refine x_iald C dX1_tripOf_101 102 rfl (coA_bestBegun hC) (coN_bestBegun hC) rfl (by omega) (by decide) ((cr_tr hR).2.2 _ (by omega)).2 ?_
          refine x_goto C dX1_tripOf_102 106 (by decide) ?_
          exact x_iret C dX1_tripOf_106 (Nat.le_refl _) (Nat.le_refl _) (Qe_of (by rw [if_neg (by rw [h64]; decide), if_pos h90, e, e2]))
      · have h64' := h64
        rw [htm.1, nI_add] at h64'
        obtain ⟨k, hk1, hk2, rfl⟩ := in_ex (by decide) (by omega) h64'
        have e : nI k - nI 10 = nI (k - 10) := pk_sub (by omega)
        have e2 : nt (nI (k - 10)) = k - 10 := nt_nI (by omega)
        refine x_aloadr_n C dX1_tripOf_67 68 rfl rfl ?_
        refine x_getr C fl_X1_96 (Or.inr ⟨_, rfl⟩) dX1_tripOf_68 71 rfl hC.1 (coR_bestSights hC) ?_
        refine x_iload_n C dX1_tripOf_71 72 rfl rfl ?_
        refine x_bip (j := 10) C dX1_tripOf_72 74 rfl (by decide) ?_
        refine x_isub C dX1_tripOf_74 75 rfl (pk_sub (by omega)) ?_
        refine x_iald C dX1_tripOf_75 76 rfl (coA_bestSights hC) (coN_bestSights hC) rfl (by omega) (by decide) ((cr_tr hR).2.2 _ (by omega)).1 ?_
        exact x_iret C dX1_tripOf_76 (Nat.le_refl _) (Nat.le_refl _) (Qe_of (by rw [if_pos h64, e, e2]))
theorem kX1_townOfNight (hR : CoR K S I T) (hI : Tok T) {k : Int32} {N : Nat} (hN : N < tn T) (h1 : k < T 484 N + T 483 N) (h2 : ∀ t, t < N → ¬ k < T 484 t + T 483 t) : Ct w l yX1_townOfNight cX1_townOfNight 3 (some .int) 1 0 0 [.ref 0, .int k] S I J (Qe (some (.int (nI N))) S I J) := by
  refine Ct.of [some _, some _, none] rfl (Nat.le_of_ble_eq_true rfl) (by decide) ?_
  intro κ hκ C
  subst hκ
  have hC := cr_S hR
  have hp10 := tk_p2 hI
  have ht6 := tk_t2 hI
  have hg30 := tk_g2 hI
  have hc30 := tk_c2 hI
  have hn500 := tk_n2 hI
  have hl : ∀ (j t : Nat), t + j = N → XX w κ (Zr w κ (Qe (some (.int (nI N))) S I J)) 0 0 2 [some (.ref 0), some (.int k), some (.int (nI t))] [] S I J := by
    intro j
    induction j with
    | zero =>
      intro t ht
      have ht : N = t := Eq.symm ht
      subst ht
      refine x_iload_n C dX1_townOfNight_2 3 rfl rfl ?_
      refine x_aloadr_n C dX1_townOfNight_3 4 rfl rfl ?_
      refine x_getr C fl_X1_17 (Or.inr ⟨_, rfl⟩) dX1_townOfNight_4 7 rfl hC.1 (coR_towns hC) ?_
      refine x_iload_n C dX1_townOfNight_7 8 rfl rfl ?_
      refine x_aaldr (t := 5) C dX1_townOfNight_8 9 rfl (coA_towns hC) (by decide) (coN_towns hC) rfl (by omega) (by decide) (ct_elt hR hN) ?_
      refine x_geti C fl_X1_118 (Or.inl rfl) dX1_townOfNight_9 12 rfl (ct_T hR hN) (ct_first hR hN) ?_
      refine x_aloadr_n C dX1_townOfNight_12 13 rfl rfl ?_
      refine x_getr C fl_X1_17 (Or.inr ⟨_, rfl⟩) dX1_townOfNight_13 16 rfl hC.1 (coR_towns hC) ?_
      refine x_iload_n C dX1_townOfNight_16 17 rfl rfl ?_
      refine x_aaldr (t := 5) C dX1_townOfNight_17 18 rfl (coA_towns hC) (by decide) (coN_towns hC) rfl (by omega) (by decide) (ct_elt hR hN) ?_
      refine x_geti C fl_X1_121 (Or.inl rfl) dX1_townOfNight_18 21 rfl (ct_T hR hN) (ct_nights hR hN) ?_
      refine x_iadd C dX1_townOfNight_21 22 rfl rfl ?_
      refine x_icmplt C dX1_townOfNight_22 25 31 rfl (by decide) (fun _ => ?_) (fun h22 => absurd h22 (not_not_intro h1))
      refine x_iload_n C dX1_townOfNight_31 32 rfl rfl ?_
      exact x_iret C dX1_townOfNight_32 (Nat.le_refl _) (Nat.le_refl _) ⟨rfl, rfl, rfl, rfl⟩
    | succ j ih =>
      intro t ht
      have htt : t < tn T := by omega
      refine x_iload_n C dX1_townOfNight_2 3 rfl rfl ?_
      refine x_aloadr_n C dX1_townOfNight_3 4 rfl rfl ?_
      refine x_getr C fl_X1_17 (Or.inr ⟨_, rfl⟩) dX1_townOfNight_4 7 rfl hC.1 (coR_towns hC) ?_
      refine x_iload_n C dX1_townOfNight_7 8 rfl rfl ?_
      refine x_aaldr (t := 5) C dX1_townOfNight_8 9 rfl (coA_towns hC) (by decide) (coN_towns hC) rfl (by omega) (by decide) (ct_elt hR htt) ?_
      refine x_geti C fl_X1_118 (Or.inl rfl) dX1_townOfNight_9 12 rfl (ct_T hR htt) (ct_first hR htt) ?_
      refine x_aloadr_n C dX1_townOfNight_12 13 rfl rfl ?_
      refine x_getr C fl_X1_17 (Or.inr ⟨_, rfl⟩) dX1_townOfNight_13 16 rfl hC.1 (coR_towns hC) ?_
      refine x_iload_n C dX1_townOfNight_16 17 rfl rfl ?_
      refine x_aaldr (t := 5) C dX1_townOfNight_17 18 rfl (coA_towns hC) (by decide) (coN_towns hC) rfl (by omega) (by decide) (ct_elt hR htt) ?_
      refine x_geti C fl_X1_121 (Or.inl rfl) dX1_townOfNight_18 21 rfl (ct_T hR htt) (ct_nights hR htt) ?_
      refine x_iadd C dX1_townOfNight_21 22 rfl rfl ?_
      refine x_icmplt C dX1_townOfNight_22 25 31 rfl (by decide) (fun h22 => absurd h22 (h2 t (by omega))) (fun _ => ?_)
      refine x_iinc C dX1_townOfNight_25 28 rfl [_, _, _] (nI_inc _) (by decide) rfl rfl rfl ?_
      refine x_goto C dX1_townOfNight_28 2 (by decide) ?_
      exact ih (t + 1) (by omega)
  refine x_ic (j := 0) C dX1_townOfNight_0 1 rfl ?_
  refine x_istore_n C dX1_townOfNight_1 2 rfl [_, _, _] (by decide) rfl rfl ?_
  exact hl N 0 (Nat.zero_add _)
end Co5
/-! what an update leaves -/
section
variable {K : Ly} {S : Sh} {I I' T T' : Mi}
theorem perR_k {p : Nat} (h : perR K S I T p) (hi : I' (pa K p) = I (pa K p)) (ht : ∀ b, b ∈ [474, 475, 476, 477, 478, 479, 480, 481, 482, 497] → T' b = T b) : perR K S I' T' p := by
  have r := fun (b : Nat) (hb : b ∈ [474, 475, 476, 477, 478, 479, 480, 481, 482, 497]) => ht b hb
  unfold perR frR bmN
  rw [hi, r 474 (by decide), r 475 (by decide), r 476 (by decide), r 477 (by decide), r 478 (by decide), r 479 (by decide), r 480 (by decide), r 481 (by decide), r 482 (by decide), r 497 (by decide)]
  exact h
theorem towR_k {t : Nat} (h : towR K S I T t) (hi : I' (ta K t) = I (ta K t)) (hl : I' (ta K t + 2) = I (ta K t + 2)) (hr : ∀ r, r < rn T t → I' (ra K t r) = I (ra K t r)) (ht : ∀ b, b ∈ [483, 484, 485, 486, 487, 488, 489, 490] → T' b = T b) : towR K S I' T' t := by
  have r := fun (b : Nat) (hb : b ∈ [483, 484, 485, 486, 487, 488, 489, 490]) => ht b hb
  have hrn : rn T' t = rn T t := by show nt _ = nt _; rw [r 485 (by decide)]
  unfold towR at h ⊢
  rw [hi, hl, r 483 (by decide), r 484 (by decide), r 485 (by decide), r 490 (by decide), hrn]
  obtain ⟨g1, g2, g3, g4, g5, g6, g7, g8, g9, g10, g11, g12, g13, g14⟩ := h
  refine ⟨g1, g2, g3, g4, g5, g6, g7, g8, g9, g10, g11, g12, g13, fun q hq => ?_⟩
  have := g14 q hq
  unfold rooR at this ⊢
  rw [hr q hq, r 486 (by decide), r 487 (by decide), r 488 (by decide), r 489 (by decide)]
  exact this
theorem coNo_k (h : coNo I T) (hi : I' 3 = I 3 ∧ I' 4 = I 4 ∧ I' 5 = I 5 ∧ I' 6 = I 6) (hn : nn T' = nn T) (ht : T' 491 = T 491 ∧ T' 492 = T 492 ∧ T' 493 = T 493) : coNo I' T' := by
  unfold coNo
  rw [hi.1, hi.2.1, hi.2.2.1, hi.2.2.2, hn, ht.1, ht.2.1, ht.2.2]
  exact h
theorem coTp_k (h : coTp I T) (hi : I' 7 = I 7) (hn : dn T' = dn T) (ht : T' 503 = T 503) : coTp I' T' := by
  unfold coTp
  rw [hi, hn, ht]
  exact h
theorem coBk_k (h : coBk I T) (hi : ∀ a, 10 ≤ a → a ≤ 71 → I' a = I a) (ht : T' 494 = T 494 ∧ T' 495 = T 495 ∧ T' 496 = T 496) : coBk I' T' := by
  refine ⟨fun n p hn hp => ?_, fun n hn => ?_⟩
  · rw [hi (10 + n) (by omega) (by omega), hi (41 + n) (by omega) (by omega), ht.1, ht.2.1]
    exact h.1 n p hn hp
  · rw [hi 71 (by omega) (by omega), ht.2.2]
    exact h.2 n hn
theorem coTr_k (h : coTr I T) (hi : ∀ a, 458 ≤ a → a ≤ 472 → I' a = I a) (ht : ∀ b, b ∈ [510, 511, 512, 513, 516, 517] → T' b = T b) : coTr I' T' := by
  have r := fun (b : Nat) (hb : b ∈ [510, 511, 512, 513, 516, 517]) => ht b hb
  refine ⟨fun i q => ?_, fun i j q1 q2 => ?_, fun i q => ?_⟩
  · rw [hi 458 (by omega) (by omega), hi 459 (by omega) (by omega), hi 460 (by omega) (by omega), r 510 (by decide), r 511 (by decide), r 512 (by decide)]
    exact h.1 i q
  · rw [hi (462 + i) (by omega) (by omega), r 513 (by decide)]
    exact h.2.1 i j q1 q2
  · rw [hi 471 (by omega) (by omega), hi 472 (by omega) (by omega), r 516 (by decide), r 517 (by decide)]
    exact h.2.2 i q
theorem rulesOf_k (ht : T' 504 = T 504 ∧ T' 505 = T 505) (t : Nat) : rulesOf T' t = rulesOf T t := (TxOk_q ht.1 ht.2 t).2
theorem layR_k {S' : Sh} (h : layR K S T) (hp : pn T' = pn T) (ht : tn T' = tn T) (hr : ∀ t, t < tn T → rn T' t = rn T t) (hs : S.2.2.2 ≤ S'.2.2.2) : layR K S' T' := by
  unfold layR
  rw [hp, ht]
  obtain ⟨h1, h2, h3, h4, h5, h6, h7⟩ := h
  refine ⟨h1, h2, fun t u r s q1 q2 q3 q4 => ?_, fun p q => ⟨(h4 p q).1, Nat.lt_of_lt_of_le (h4 p q).2 hs⟩, fun t q => ⟨(h5 t q).1, Nat.lt_of_lt_of_le (h5 t q).2 hs⟩, fun t r q1 q2 => ?_, Nat.le_trans h7 hs⟩
  · rw [hr t q1] at q3
    rw [hr u q2] at q4
    exact h3 t u r s q1 q2 q3 q4
  · rw [hr t q1] at q2
    exact ⟨(h6 t r q1 q2).1, Nat.lt_of_lt_of_le (h6 t r q1 q2).2 hs⟩
/-- an update of ints alone -/
theorem CoR_mem (h : CoR K S I T) (hsc : coSc I' T') (hpn : pn T' = pn T) (htn : tn T' = tn T) (hrn : ∀ t, t < tn T → rn T' t = rn T t) (hpe : ∀ p, p < pn T → perR K S I' T' p) (hto : ∀ t, t < tn T → towR K S I' T' t) (him : ∀ a, immT (S.1 a) → I' a = I a) (hru : T' 504 = T 504 ∧ T' 505 = T 505) (h506 : T' 506 = T 506) (hno : coNo I' T') (htp : coTp I' T') (hbk : coBk I' T') (htr : coTr I' T') : CoR K S I' T' := by
  refine ⟨cr_S h, hsc, by rw [hpn]; exact hpe, by rw [htn]; exact hto, by
    rw [htn]
    intro t ht
    have := cr_ct h ht
    unfold cntR at this ⊢
    rw [rulesOf_k hru, h506]
    exact ⟨this.1.keep (fun a ha => ⟨rfl, rfl, rfl, him a ha⟩), this.2⟩, hno, htp, hbk, htr, layR_k (cr_ly h) hpn htn hrn (Nat.le_refl _)⟩
end
/-! apart -/
section
variable {K : Ly} {S : Sh} {I T : Mi}
theorem ap_pf (h : CoR K S I T) {p a : Nat} (hp : p < pn T) (ha : a < 520) : pa K p ≠ a := by have := ((cr_ly h).2.2.2.1 p hp).1; omega
theorem ap_tf (h : CoR K S I T) {t a : Nat} (ht : t < tn T) (ha : a < 520) : ta K t ≠ a ∧ ta K t + 2 ≠ a := by have := ((cr_ly h).2.2.2.2.1 t ht).1; omega
theorem ap_rf (h : CoR K S I T) {t r a : Nat} (ht : t < tn T) (hr : r < rn T t) (ha : a < 520) : ra K t r ≠ a := by have := ((cr_ly h).2.2.2.2.2.1 t r ht hr).1; omega
theorem ap_tag {a b k j : Nat} (h1 : S.1 a = k) (h2 : S.1 b = j) (h : k ≠ j) : a ≠ b := fun e => h (by rw [← h1, ← h2, e])
/-- a store at a cell that isn't kept for ever -/
theorem im_sto {M : Mi} {b i k : Nat} {v : Int32} (hb : S.1 b = k) (hk : ¬ immT k) (h : ∀ a, immT (S.1 a) → M a = I a) : ∀ a, immT (S.1 a) → sto M b i v a = I a := by
  intro a ha
  rw [sto_n]
  · exact h a ha
  · intro e
    subst e
    rw [hb] at ha
    exact hk ha
theorem im_rfl : ∀ a, immT (S.1 a) → I a = I a := fun _ _ => rfl
theorem ni_0 : ¬ immT 0 := by unfold immT; omega
theorem ni_3 : ¬ immT 3 := by unfold immT; omega
theorem ni_4 : ¬ immT 4 := by unfold immT; omega
theorem ni_5 : ¬ immT 5 := by unfold immT; omega
theorem ni_100 : ¬ immT 100 := by unfold immT; omega
theorem ni_101 : ¬ immT 101 := by unfold immT; omega
theorem ni_102 : ¬ immT 102 := by unfold immT; omega
theorem ni_103 : ¬ immT 103 := by unfold immT; omega
end
