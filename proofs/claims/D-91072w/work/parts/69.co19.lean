/-! the component: the tape is fed -/
theorem CoR_tape {K : Ly} {S : Sh} {I T : Mi} (h : CoR K S I T) (hd : T 473 41 = nI (dn T)) (h4 : dn T < 400) (v : Int32) : CoR K S (sto (sto I 7 (dn T) v) 0 17 (nI (dn T + 1))) (sto (sto T 503 (dn T) v) 473 41 (nI (dn T + 1))) := by
  have hC := cr_S h
  have hi : ∀ x, x ≠ 0 → x ≠ 7 → sto (sto I 7 (dn T) v) 0 17 (nI (dn T + 1)) x = I x := fun x h1 h2 => by rw [sto_n _ _ _ h1, sto_n _ _ _ h2]
  have ht : ∀ b, b ≠ 473 → b ≠ 503 → sto (sto T 503 (dn T) v) 473 41 (nI (dn T + 1)) b = T b := fun b h1 h2 => by rw [sto_n _ _ _ h1, sto_n _ _ _ h2]
  refine CoR_fx h (fun x hx => hi x (by omega) (by omega)) (im_sto hC.1 ni_0 (im_sto (coA_tape hC) ni_102 im_rfl)) (fun c hc => ht c (ht_mem hc (by decide)) (ht_mem hc (by decide))) rfl rfl ?_ (coNo_k (cr_no h) ⟨rfl, rfl, rfl, rfl⟩ rfl ⟨rfl, rfl, rfl⟩) ?_ (coBk_k (cr_bk h) (fun x q1 q2 => hi x (by omega) (by omega)) ⟨rfl, rfl, rfl⟩) (coTr_k (cr_tr h) (fun x q1 q2 => hi x (by omega) (by omega)) (fun b hb => ht b (ht_mem hb (by decide)) (ht_mem hb (by decide))))
  · obtain ⟨g1, g2, g3, g4, g5, g6, g7, g8, g9, g10, g11, g12, g13, g14, g15, g16⟩ := h.2.1
    exact ⟨g1, g2, g3, g4, g5, g6, g7, g8, g9, g10, rfl, g12, g13, g14, g15, g16⟩
  · intro k hk
    have hk : k < nt (nI (dn T + 1)) := hk
    rw [nt_nI (by omega)] at hk
    show sto I 7 (dn T) v 7 k = sto T 503 (dn T) v 503 k
    rw [sto_at, sto_at]
    by_cases e : k = dn T
    · rw [if_pos ⟨rfl, e⟩, if_pos ⟨rfl, e⟩]
    · rw [if_neg (fun q => e q.2), if_neg (fun q => e q.2)]
      exact cr_tp h k (by omega)
section Co19
variable {w : Wd} {l : Launch} {K : Ly} {S : Sh} {I T : Mi} {J : Ml}
theorem kX1_feed (hR : CoR K S I T) (hI : Tok T) {a b c : Int64} : Ct w l yX1_feed cX1_feed 9 (some .int) 1 0 0 [.ref 0, .long a, .long b, .long c] S I J (Qp (sp_feed T a b c) S I J 0) := by
  refine Ct.of [some _, some _, none, some _, none, some _, none, none, none] rfl (Nat.le_of_ble_eq_true rfl) (by decide) ?_
  intro κ hκ C
  subst hκ
  have hC := cr_S hR
  have hp10 := tk_p2 hI
  have ht6 := tk_t2 hI
  have hg30 := tk_g2 hI
  have hc30 := tk_c2 hI
  have hn500 := tk_n2 hI
  have hl : ∀ (j k : Nat) (M : Mi), k + j = 24 → CoR K S M (fdS T a b c k) → fzI I M → XX w κ (Zr w κ (Qp (sp_feed T a b c) S I J 0)) 0 0 3 [some (.ref 0), some (.long a), none, some (.long b), none, some (.long c), none, some (.int (nI k)), none] [] S M J := by
    intro j
    induction j with
    | zero =>
      intro k M e hM hf
      have e : k = 24 := e
      subst e
      refine x_iload C dX1_feed_3 5 rfl rfl ?_
      refine x_bip (j := 24) C dX1_feed_5 7 rfl (by decide) ?_
      refine x_icmpgeN C dX1_feed_7 10 92 rfl (by decide) (by omega) (by omega) (fun _ => ?_) (fun h7 => absurd h7 (by decide))
      refine x_aloadr_n C dX1_feed_92 93 rfl rfl ?_
      refine x_geti C fl_X1_279 (Or.inl rfl) dX1_feed_93 96 rfl hC.1 (cs_taped hM) ?_
      exact x_iret C dX1_feed_96 (Nat.le_refl _) (Nat.le_refl _) (Qp_s rfl hM hf)
    | succ j ih =>
      intro k M e hM hf
      have hok := fdS_ok (I := T) ⟨tk_d hI, tk_d2 hI⟩ a b c k
      have hok2 := hok.2
      refine x_iload C dX1_feed_3 5 rfl rfl ?_
      refine x_bip (j := 24) C dX1_feed_5 7 rfl (by decide) ?_
      refine x_icmpgeN C dX1_feed_7 10 92 rfl (by decide) (by omega) (by omega) (fun h7 => absurd h7 (by omega)) (fun _ => ?_)
      refine x_iload C dX1_feed_10 12 rfl rfl ?_
      refine x_bip (j := 8) C dX1_feed_12 14 rfl (by decide) ?_
      refine x_icmpgeN C dX1_feed_14 17 21 rfl (by decide) (by omega) (by omega) (fun h14 => ?_) (fun h14 => ?_)
      · refine x_iload C dX1_feed_21 23 rfl rfl ?_
        refine x_bip (j := 16) C dX1_feed_23 25 rfl (by decide) ?_
        refine x_icmpgeN C dX1_feed_25 28 32 rfl (by decide) (by omega) (by omega) (fun h25 => ?_) (fun h25 => ?_)
        · refine x_lload C dX1_feed_32 34 rfl rfl ?_
          refine x_bip (j := 56) C dX1_feed_34 36 rfl (by decide) ?_
          refine x_bip (j := 8) C dX1_feed_36 38 rfl (by decide) ?_
          refine x_iload C dX1_feed_38 40 rfl rfl ?_
          refine x_bip (j := 8) C dX1_feed_40 42 rfl (by decide) ?_
          refine x_irem C dX1_feed_42 43 rfl (by decide) (pk_rem (by omega) (by omega) (by omega)) ?_
          refine x_imul C dX1_feed_43 44 rfl (pk_mul _ _) ?_
          refine x_isub C dX1_feed_44 45 rfl (pk_sub (by omega)) ?_
          refine x_lshr C dX1_feed_45 46 rfl rfl ?_
          refine x_l2i C dX1_feed_46 47 rfl rfl ?_
          refine x_i2b C dX1_feed_47 48 rfl (by unfold fdB; first | rw [if_pos h14] | rw [if_neg h14, if_pos h25] | rw [if_neg h14, if_neg h25] : _ = fdB a b c k) ?_
          refine x_istore C dX1_feed_48 50 rfl [_, _, _, _, _, _, _, _, _] (by decide) rfl rfl ?_
          refine x_iload C dX1_feed_50 52 rfl rfl ?_
          refine x_ifeq C dX1_feed_52 55 86 rfl (by decide) (fun h52 => ?_) (fun h52 => ?_)
          · have hN : CoR K S M (fdS T a b c (k + 1)) := by { rw [fdS, if_pos (Or.inl h52)]; exact hM }
            refine x_iinc C dX1_feed_86 89 rfl [_, _, _, _, _, _, _, _, _] (nI_inc _) (by decide) rfl rfl rfl ?_
            refine x_goto C dX1_feed_89 3 (by decide) ?_
            refine x_ls [some _, some _, none, some _, none, some _, none, some _, none] ⟨rfl, rfl, rfl, rfl, rfl, trivial⟩ ?_
            exact ih (k + 1) _ (by omega) hN hf
          · refine x_aloadr_n C dX1_feed_55 56 rfl rfl ?_
            refine x_geti C fl_X1_279 (Or.inl rfl) dX1_feed_56 59 rfl hC.1 ((cs_taped hM).trans hok.1) ?_
            refine x_sip (j := 400) C dX1_feed_59 62 rfl (by decide) ?_
            refine x_icmpgeN C dX1_feed_62 65 86 rfl (by decide) (by omega) (by omega) (fun h62 => ?_) (fun h62 => ?_)
            · have hN : CoR K S M (fdS T a b c (k + 1)) := by { rw [fdS, if_pos (Or.inr (by rw [hok.1]; exact congrArg nI (by omega)))]; exact hM }
              refine x_iinc C dX1_feed_86 89 rfl [_, _, _, _, _, _, _, _, _] (nI_inc _) (by decide) rfl rfl rfl ?_
              refine x_goto C dX1_feed_89 3 (by decide) ?_
              refine x_ls [some _, some _, none, some _, none, some _, none, some _, none] ⟨rfl, rfl, rfl, rfl, rfl, trivial⟩ ?_
              exact ih (k + 1) _ (by omega) hN hf
            · have hN := CoR_tape hM hok.1 (by omega) (fdB a b c k)
              have hN : CoR K S _ (fdS T a b c (k + 1)) := by { rw [fdS, if_neg (not_or.mpr ⟨h52, by rw [hok.1, nI_eq (by omega) (by decide)]; omega⟩), show fdS T a b c k 473 41 + nI 1 = nI (nt (fdS T a b c k 473 41) + 1) by rw [← nI_add, ← hok.1]]; exact hN }
              have hf := fz_sto (fz_sto hf (b := 7) (i := nt (fdS T a b c k 473 41)) (v := fdB a b c k) (by decide)) (b := 0) (i := 17) (v := nI (nt (fdS T a b c k 473 41) + 1)) (by decide)
              refine x_aloadr_n C dX1_feed_65 66 rfl rfl ?_
              refine x_getr C fl_X1_41 (Or.inr ⟨_, rfl⟩) dX1_feed_66 69 rfl hC.1 (coR_tape hC) ?_
              refine x_aloadr_n C dX1_feed_69 70 rfl rfl ?_
              refine x_geti C fl_X1_279 (Or.inl rfl) dX1_feed_70 73 rfl hC.1 ((cs_taped hM).trans hok.1) ?_
              refine x_iload C dX1_feed_73 75 rfl rfl ?_
              refine x_bast C dX1_feed_75 76 rfl (coA_tape hC) (coN_tape hC) rfl (by omega) (by decide) (pk_nb _) ?_
              refine x_aloadr_n C dX1_feed_76 77 rfl rfl ?_
              refine x_dup C dX1_feed_77 78 rfl rfl ?_
              refine x_geti C fl_X1_279 (Or.inl rfl) dX1_feed_78 81 rfl hC.1 (show M 0 17 = _ from (cs_taped hM).trans hok.1) ?_
              refine x_ic (j := 1) C dX1_feed_81 82 rfl ?_
              refine x_iadd C dX1_feed_82 83 rfl (nI_add _ _) ?_
              refine x_puti C fl_X1_279 (Or.inl rfl) (Or.inl rfl) dX1_feed_83 86 rfl hC.1 ?_
              refine x_iinc C dX1_feed_86 89 rfl [_, _, _, _, _, _, _, _, _] (nI_inc _) (by decide) rfl rfl rfl ?_
              refine x_goto C dX1_feed_89 3 (by decide) ?_
              refine x_ls [some _, some _, none, some _, none, some _, none, some _, none] ⟨rfl, rfl, rfl, rfl, rfl, trivial⟩ ?_
              exact ih (k + 1) _ (by omega) hN hf
        · refine x_lload_n C dX1_feed_28 29 rfl rfl ?_
          refine x_goto C dX1_feed_29 34 (by decide) ?_
          refine x_bip (j := 56) C dX1_feed_34 36 rfl (by decide) ?_
          refine x_bip (j := 8) C dX1_feed_36 38 rfl (by decide) ?_
          refine x_iload C dX1_feed_38 40 rfl rfl ?_
          refine x_bip (j := 8) C dX1_feed_40 42 rfl (by decide) ?_
          refine x_irem C dX1_feed_42 43 rfl (by decide) (pk_rem (by omega) (by omega) (by omega)) ?_
          refine x_imul C dX1_feed_43 44 rfl (pk_mul _ _) ?_
          refine x_isub C dX1_feed_44 45 rfl (pk_sub (by omega)) ?_
          refine x_lshr C dX1_feed_45 46 rfl rfl ?_
          refine x_l2i C dX1_feed_46 47 rfl rfl ?_
          refine x_i2b C dX1_feed_47 48 rfl (by unfold fdB; first | rw [if_pos h14] | rw [if_neg h14, if_pos h25] | rw [if_neg h14, if_neg h25] : _ = fdB a b c k) ?_
          refine x_istore C dX1_feed_48 50 rfl [_, _, _, _, _, _, _, _, _] (by decide) rfl rfl ?_
          refine x_iload C dX1_feed_50 52 rfl rfl ?_
          refine x_ifeq C dX1_feed_52 55 86 rfl (by decide) (fun h52 => ?_) (fun h52 => ?_)
          · have hN : CoR K S M (fdS T a b c (k + 1)) := by { rw [fdS, if_pos (Or.inl h52)]; exact hM }
            refine x_iinc C dX1_feed_86 89 rfl [_, _, _, _, _, _, _, _, _] (nI_inc _) (by decide) rfl rfl rfl ?_
            refine x_goto C dX1_feed_89 3 (by decide) ?_
            refine x_ls [some _, some _, none, some _, none, some _, none, some _, none] ⟨rfl, rfl, rfl, rfl, rfl, trivial⟩ ?_
            exact ih (k + 1) _ (by omega) hN hf
          · refine x_aloadr_n C dX1_feed_55 56 rfl rfl ?_
            refine x_geti C fl_X1_279 (Or.inl rfl) dX1_feed_56 59 rfl hC.1 ((cs_taped hM).trans hok.1) ?_
            refine x_sip (j := 400) C dX1_feed_59 62 rfl (by decide) ?_
            refine x_icmpgeN C dX1_feed_62 65 86 rfl (by decide) (by omega) (by omega) (fun h62 => ?_) (fun h62 => ?_)
            · have hN : CoR K S M (fdS T a b c (k + 1)) := by { rw [fdS, if_pos (Or.inr (by rw [hok.1]; exact congrArg nI (by omega)))]; exact hM }
              refine x_iinc C dX1_feed_86 89 rfl [_, _, _, _, _, _, _, _, _] (nI_inc _) (by decide) rfl rfl rfl ?_
              refine x_goto C dX1_feed_89 3 (by decide) ?_
              refine x_ls [some _, some _, none, some _, none, some _, none, some _, none] ⟨rfl, rfl, rfl, rfl, rfl, trivial⟩ ?_
              exact ih (k + 1) _ (by omega) hN hf
            · have hN := CoR_tape hM hok.1 (by omega) (fdB a b c k)
              have hN : CoR K S _ (fdS T a b c (k + 1)) := by { rw [fdS, if_neg (not_or.mpr ⟨h52, by rw [hok.1, nI_eq (by omega) (by decide)]; omega⟩), show fdS T a b c k 473 41 + nI 1 = nI (nt (fdS T a b c k 473 41) + 1) by rw [← nI_add, ← hok.1]]; exact hN }
              have hf := fz_sto (fz_sto hf (b := 7) (i := nt (fdS T a b c k 473 41)) (v := fdB a b c k) (by decide)) (b := 0) (i := 17) (v := nI (nt (fdS T a b c k 473 41) + 1)) (by decide)
              refine x_aloadr_n C dX1_feed_65 66 rfl rfl ?_
              refine x_getr C fl_X1_41 (Or.inr ⟨_, rfl⟩) dX1_feed_66 69 rfl hC.1 (coR_tape hC) ?_
              refine x_aloadr_n C dX1_feed_69 70 rfl rfl ?_
              refine x_geti C fl_X1_279 (Or.inl rfl) dX1_feed_70 73 rfl hC.1 ((cs_taped hM).trans hok.1) ?_
              refine x_iload C dX1_feed_73 75 rfl rfl ?_
              refine x_bast C dX1_feed_75 76 rfl (coA_tape hC) (coN_tape hC) rfl (by omega) (by decide) (pk_nb _) ?_
              refine x_aloadr_n C dX1_feed_76 77 rfl rfl ?_
              refine x_dup C dX1_feed_77 78 rfl rfl ?_
              refine x_geti C fl_X1_279 (Or.inl rfl) dX1_feed_78 81 rfl hC.1 (show M 0 17 = _ from (cs_taped hM).trans hok.1) ?_
              refine x_ic (j := 1) C dX1_feed_81 82 rfl ?_
              refine x_iadd C dX1_feed_82 83 rfl (nI_add _ _) ?_
              refine x_puti C fl_X1_279 (Or.inl rfl) (Or.inl rfl) dX1_feed_83 86 rfl hC.1 ?_
              refine x_iinc C dX1_feed_86 89 rfl [_, _, _, _, _, _, _, _, _] (nI_inc _) (by decide) rfl rfl rfl ?_
              refine x_goto C dX1_feed_89 3 (by decide) ?_
              refine x_ls [some _, some _, none, some _, none, some _, none, some _, none] ⟨rfl, rfl, rfl, rfl, rfl, trivial⟩ ?_
              exact ih (k + 1) _ (by omega) hN hf
      · refine x_lload_n C dX1_feed_17 18 rfl rfl ?_
        refine x_goto C dX1_feed_18 34 (by decide) ?_
        refine x_bip (j := 56) C dX1_feed_34 36 rfl (by decide) ?_
        refine x_bip (j := 8) C dX1_feed_36 38 rfl (by decide) ?_
        refine x_iload C dX1_feed_38 40 rfl rfl ?_
        refine x_bip (j := 8) C dX1_feed_40 42 rfl (by decide) ?_
        refine x_irem C dX1_feed_42 43 rfl (by decide) (pk_rem (by omega) (by omega) (by omega)) ?_
        refine x_imul C dX1_feed_43 44 rfl (pk_mul _ _) ?_
        refine x_isub C dX1_feed_44 45 rfl (pk_sub (by omega)) ?_
        refine x_lshr C dX1_feed_45 46 rfl rfl ?_
        refine x_l2i C dX1_feed_46 47 rfl rfl ?_
        refine x_i2b C dX1_feed_47 48 rfl (by unfold fdB; first | rw [if_pos h14] | rw [if_neg h14, if_pos h25] | rw [if_neg h14, if_neg h25] : _ = fdB a b c k) ?_
        refine x_istore C dX1_feed_48 50 rfl [_, _, _, _, _, _, _, _, _] (by decide) rfl rfl ?_
        refine x_iload C dX1_feed_50 52 rfl rfl ?_
        refine x_ifeq C dX1_feed_52 55 86 rfl (by decide) (fun h52 => ?_) (fun h52 => ?_)
        · have hN : CoR K S M (fdS T a b c (k + 1)) := by { rw [fdS, if_pos (Or.inl h52)]; exact hM }
          refine x_iinc C dX1_feed_86 89 rfl [_, _, _, _, _, _, _, _, _] (nI_inc _) (by decide) rfl rfl rfl ?_
          refine x_goto C dX1_feed_89 3 (by decide) ?_
          refine x_ls [some _, some _, none, some _, none, some _, none, some _, none] ⟨rfl, rfl, rfl, rfl, rfl, trivial⟩ ?_
          exact ih (k + 1) _ (by omega) hN hf
        · refine x_aloadr_n C dX1_feed_55 56 rfl rfl ?_
          refine x_geti C fl_X1_279 (Or.inl rfl) dX1_feed_56 59 rfl hC.1 ((cs_taped hM).trans hok.1) ?_
          refine x_sip (j := 400) C dX1_feed_59 62 rfl (by decide) ?_
          refine x_icmpgeN C dX1_feed_62 65 86 rfl (by decide) (by omega) (by omega) (fun h62 => ?_) (fun h62 => ?_)
          · have hN : CoR K S M (fdS T a b c (k + 1)) := by { rw [fdS, if_pos (Or.inr (by rw [hok.1]; exact congrArg nI (by omega)))]; exact hM }
            refine x_iinc C dX1_feed_86 89 rfl [_, _, _, _, _, _, _, _, _] (nI_inc _) (by decide) rfl rfl rfl ?_
            refine x_goto C dX1_feed_89 3 (by decide) ?_
            refine x_ls [some _, some _, none, some _, none, some _, none, some _, none] ⟨rfl, rfl, rfl, rfl, rfl, trivial⟩ ?_
            exact ih (k + 1) _ (by omega) hN hf
          · have hN := CoR_tape hM hok.1 (by omega) (fdB a b c k)
            have hN : CoR K S _ (fdS T a b c (k + 1)) := by { rw [fdS, if_neg (not_or.mpr ⟨h52, by rw [hok.1, nI_eq (by omega) (by decide)]; omega⟩), show fdS T a b c k 473 41 + nI 1 = nI (nt (fdS T a b c k 473 41) + 1) by rw [← nI_add, ← hok.1]]; exact hN }
            have hf := fz_sto (fz_sto hf (b := 7) (i := nt (fdS T a b c k 473 41)) (v := fdB a b c k) (by decide)) (b := 0) (i := 17) (v := nI (nt (fdS T a b c k 473 41) + 1)) (by decide)
            refine x_aloadr_n C dX1_feed_65 66 rfl rfl ?_
            refine x_getr C fl_X1_41 (Or.inr ⟨_, rfl⟩) dX1_feed_66 69 rfl hC.1 (coR_tape hC) ?_
            refine x_aloadr_n C dX1_feed_69 70 rfl rfl ?_
            refine x_geti C fl_X1_279 (Or.inl rfl) dX1_feed_70 73 rfl hC.1 ((cs_taped hM).trans hok.1) ?_
            refine x_iload C dX1_feed_73 75 rfl rfl ?_
            refine x_bast C dX1_feed_75 76 rfl (coA_tape hC) (coN_tape hC) rfl (by omega) (by decide) (pk_nb _) ?_
            refine x_aloadr_n C dX1_feed_76 77 rfl rfl ?_
            refine x_dup C dX1_feed_77 78 rfl rfl ?_
            refine x_geti C fl_X1_279 (Or.inl rfl) dX1_feed_78 81 rfl hC.1 (show M 0 17 = _ from (cs_taped hM).trans hok.1) ?_
            refine x_ic (j := 1) C dX1_feed_81 82 rfl ?_
            refine x_iadd C dX1_feed_82 83 rfl (nI_add _ _) ?_
            refine x_puti C fl_X1_279 (Or.inl rfl) (Or.inl rfl) dX1_feed_83 86 rfl hC.1 ?_
            refine x_iinc C dX1_feed_86 89 rfl [_, _, _, _, _, _, _, _, _] (nI_inc _) (by decide) rfl rfl rfl ?_
            refine x_goto C dX1_feed_89 3 (by decide) ?_
            refine x_ls [some _, some _, none, some _, none, some _, none, some _, none] ⟨rfl, rfl, rfl, rfl, rfl, trivial⟩ ?_
            exact ih (k + 1) _ (by omega) hN hf
  refine x_ic (j := 0) C dX1_feed_0 1 rfl ?_
  refine x_istore C dX1_feed_1 3 rfl [_, _, _, _, _, _, _, _, _] (by decide) rfl rfl ?_
  exact hl 24 0 _ rfl hR fz_rfl
end Co19
