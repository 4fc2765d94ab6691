/-! the component: the most -/
def Qj (v : Int32) (S : Sh) (I : Mi) (J : Ml) : Option Value → Sh → Mi → Ml → Prop := fun r S' I' J' => r = some (.int v) ∧ S = S' ∧ I = I' ∧ fzJ J J'
theorem Qj_of {v v' : Int32} {S : Sh} {I : Mi} {J J' : Ml} (h : v = v') (hj : fzJ J J') : Qj v S I J (some (.int v')) S I J' := ⟨by rw [h], rfl, rfl, hj⟩
theorem fzJ_sto {J J' : Ml} {b i : Nat} {v : Int64} (h : fzJ J J') (hb : b < 473) : fzJ J (sto J' b i v) := fun a h1 h2 => by rw [sto_n _ _ _ (by omega)]; exact h a h1 h2
theorem nI_nn {k : Nat} (h : k < 2 ^ 31) : ¬ nI k < 0 := fun q => absurd q (Int32.not_lt.mpr (by rw [← nI_0]; exact nI_le (Nat.zero_le _) h))
section Co25
variable {w : Wd} {l : Launch} {K : Ly} {S : Sh} {I T : Mi} {J : Ml}
theorem kX1_most (hR : CoR K S I T) (hI : Tok T) (hF : FrOk T) (hbe : ∀ t, t < tn T → bedsOk T t) {t : Int32} : Ct w l yX1_most cX1_most 6 (some .int) 4 0 0 [.ref 0, .int t] S I J (Qj (sp_most T t) S I J) := by
  refine Ct.of [some _, some _, none, none, none, none] rfl (Nat.le_of_ble_eq_true rfl) (by decide) ?_
  intro κ hκ C
  subst hκ
  have hC := cr_S hR
  have hp10 := tk_p2 hI
  have ht6 := tk_t2 hI
  have hg30 := tk_g2 hI
  have hc30 := tk_c2 hI
  have hn500 := tk_n2 hI
  refine x_aloadr_n C dX1_most_0 1 rfl rfl ?_
  refine x_iload_n C dX1_most_1 2 rfl rfl ?_
  refine x_callV C lk_X1_124 dX1_most_2 5 rfl [_] [] rfl rfl hC.1 (Nat.le_of_ble_eq_true rfl) (by decide) (Nat.le_refl _) (Nat.le_refl _) (kX1_isTown hR) ?_
  rintro _ _ _ _ ⟨rfl, rfl, rfl, rfl⟩
  refine x_ifneZ C dX1_most_5 8 10 rfl (by decide) (fun h5 => ?_) (fun h5 => ?_)
  · obtain ⟨t, ht, rfl⟩ := to_I hI h5
    have et : nt (nI t) = t := nt_nI (by omega)
    have hr10 := tk_r2 hI (show t < 6 by omega)
    have hsp : sp_most T (nI t) = nI (MX (fun r q => mbB T (10 * t + r) q (pn T)) (rn T t) (rn T t) (al T t)) := by
      unfold sp_most
      rw [if_pos h5, et, most_eq hI ht (hbe t ht)]
    have hal2 : al T t < 2 ^ pn T := msk_lt _ _
    have hal : al T t < 1024 := al_lt T t hp10
    generalize hn : rn T t = n at *
    have hB : ∀ (i : Nat) (J1 : Ml), i ≤ n → (∀ r, i ≤ r → r ≤ n → ∀ u, u < 1024 → nd u (al T t) = 0 → J1 (73 + r) u = nL (MX (fun r q => mbB T (10 * t + r) q (pn T)) n (n - r) u)) → fzJ J J1 → XX w κ (Zr w κ (Qj (sp_most T (nI t)) S I J)) 0 0 61 [some (.ref 0), some (.int (nI t)), some (.ref (ta K t)), some (.int (nI (al T t))), some (.int (nI i - nI 1)), none] [] S I J1 := by
      intro i
      induction i with
      | zero =>
        intro J1 hi hrows hf
        have hg := hC.2.2.2.2.1 0 (by omega)
        refine x_iload C dX1_most_61 63 rfl rfl ?_
        refine x_iflt C dX1_most_63 66 117 rfl (by decide) (fun _ => ?_) (fun h63 => absurd h63 (not_not_intro (by decide)))
        refine x_aloadr_n C dX1_most_117 118 rfl rfl ?_
        refine x_getr C fl_X1_67 (Or.inr ⟨_, rfl⟩) dX1_most_118 121 rfl hC.1 (coR_worths hC) ?_
        refine x_ic (j := 0) C dX1_most_121 122 rfl ?_
        refine x_aaldr (t := 10) C dX1_most_122 123 rfl (coA_worths hC) (by decide) (coN_worths hC) rfl (by omega) (by decide) hg.1 ?_
        refine x_iload_n C dX1_most_123 124 rfl rfl ?_
        refine x_lald C dX1_most_124 125 rfl hg.2.1 hg.2.2 rfl (by omega) (by decide) (hrows 0 (Nat.le_refl _) hi _ hal (sub_nd (fun i h => h))) ?_
        refine x_l2i C dX1_most_125 126 rfl (nL_l2i _) ?_
        exact x_iret C dX1_most_126 (Nat.le_refl _) (Nat.le_refl _) (Qj_of hsp hf)
      | succ i ih =>
        intro J1 hi hrows hf
        rw [show nI (i + 1) - nI 1 = nI i from pk_sub (by omega)]
        have hg := hC.2.2.2.2.1 i (by omega)
        have hC2 : ∀ (j s : Nat) (J1 : Ml), s + j = 1024 → (∀ r, i + 1 ≤ r → r ≤ n → ∀ u, u < 1024 → nd u (al T t) = 0 → J1 (73 + r) u = nL (MX (fun r q => mbB T (10 * t + r) q (pn T)) n (n - r) u)) → (∀ u, u < s → nd u (al T t) = 0 → J1 (73 + i) u = nL (MX (fun r q => mbB T (10 * t + r) q (pn T)) n (n - i) u)) → fzJ J J1 → XX w κ (Zr w κ (Qj (sp_most T (nI t)) S I J)) 0 0 69 [some (.ref 0), some (.int (nI t)), some (.ref (ta K t)), some (.int (nI (al T t))), some (.int (nI i)), some (.int (nI s))] [] S I J1 := by
          intro j
          induction j with
          | zero =>
            intro s J1 e hrows hrow hf
            have e : s = 1024 := e
            subst e
            refine x_iload C dX1_most_69 71 rfl rfl ?_
            refine x_sip (j := 1024) C dX1_most_71 74 rfl (by decide) ?_
            refine x_icmpgeN C dX1_most_74 77 111 rfl (by decide) (by omega) (by omega) (fun _ => ?_) (fun h74 => absurd h74 (by decide))
            refine x_iinc C dX1_most_111 114 rfl [_, _, _, _, _, _] (nI_dec _) (by decide) rfl rfl rfl ?_
            refine x_goto C dX1_most_114 61 (by decide) ?_
            refine x_ls [some _, some _, some _, some _, some _, none] ⟨rfl, rfl, rfl, rfl, rfl, trivial⟩ ?_
            refine ih J1 (by omega) (fun r q1 q2 => ?_) hf
            by_cases e : r = i
            · subst e
              exact hrow
            · exact hrows r (by omega) q2
          | succ j ihs =>
            intro s J1 e hrows hrow hf
            have hnd : nd s (al T t) < 2 ^ 10 := nd_lt (by omega)
            refine x_iload C dX1_most_69 71 rfl rfl ?_
            refine x_sip (j := 1024) C dX1_most_71 74 rfl (by decide) ?_
            refine x_icmpgeN C dX1_most_74 77 111 rfl (by decide) (by omega) (by omega) (fun h74 => absurd h74 (by omega)) (fun _ => ?_)
            refine x_iload C dX1_most_77 79 rfl rfl ?_
            refine x_iload_n C dX1_most_79 80 rfl rfl ?_
            refine x_icm C dX1_most_80 81 rfl ?_
            refine x_ixor C dX1_most_81 82 rfl rfl ?_
            refine x_iand C dX1_most_82 83 rfl (nI_nd _ _) ?_
            refine x_ifneN C dX1_most_83 86 105 rfl (by decide) (by omega) (fun h83 => ?_) (fun h83 => ?_)
            · have hN : ∀ u, u < s + 1 → nd u (al T t) = 0 → J1 (73 + i) u = nL (MX (fun r q => mbB T (10 * t + r) q (pn T)) n (n - i) u) := fun u q1 q2 => hrow u (by have : ¬ u = s := fun e => h83 (e ▸ q2); omega) q2
              refine x_iinc C dX1_most_105 108 rfl [_, _, _, _, _, _] (nI_inc _) (by decide) rfl rfl rfl ?_
              refine x_goto C dX1_most_108 69 (by decide) ?_
              exact ihs (s + 1) _ (by omega) hrows hN hf
            · have hval : fA (gM (fun q => mbB T (10 * t + i) q (pn T)) (MX (fun r q => mbB T (10 * t + r) q (pn T)) n (n - (i + 1))) s) s (MX (fun r q => mbB T (10 * t + r) q (pn T)) n (n - (i + 1)) s) 10 = MX (fun r q => mbB T (10 * t + r) q (pn T)) n (n - i) s := by
                rw [show n - i = n - (i + 1) + 1 by omega, MX, show n - (n - (i + 1) + 1) = i by omega]
              refine x_aloadr_n C dX1_most_86 87 rfl rfl ?_
              refine x_getr C fl_X1_67 (Or.inr ⟨_, rfl⟩) dX1_most_87 90 rfl hC.1 (coR_worths hC) ?_
              refine x_iload C dX1_most_90 92 rfl rfl ?_
              refine x_aaldr (t := 10) C dX1_most_92 93 rfl (coA_worths hC) (by decide) (coN_worths hC) rfl (by omega) (by decide) hg.1 ?_
              refine x_iload C dX1_most_93 95 rfl rfl ?_
              refine x_aloadr_n C dX1_most_95 96 rfl rfl ?_
              refine x_aloadr_n C dX1_most_96 97 rfl rfl ?_
              refine x_iload C dX1_most_97 99 rfl rfl ?_
              refine x_iload C dX1_most_99 101 rfl rfl ?_
              refine x_callV C lk_X1_269 dX1_most_101 104 rfl [_, _, _] [_, _] rfl rfl hC.1 (Nat.le_of_ble_eq_true rfl) (by decide) (Nat.le_refl _) (Nat.le_refl _) (kX1_mostOf hR hI hF ht (by omega) (sub_lt2 h83 hal2) (hbe t ht) (D := MX (fun r q => mbB T (10 * t + r) q (pn T)) n (n - (i + 1))) (m := 100) (by decide) (fun u => Nat.le_trans (MX_le _ _ _ _) (by omega)) (fun u q1 q2 => hrows (i + 1) (Nat.le_refl _) (by omega) u q1 (nd_tr q2 h83))) ?_
              rintro _ _ _ _ ⟨rfl, rfl, rfl, rfl⟩
              rw [hval]
              refine x_last C dX1_most_104 105 rfl hg.2.1 hg.2.2 rfl (by omega) (by decide) ?_
              refine x_iinc C dX1_most_105 108 rfl [_, _, _, _, _, _] (nI_inc _) (by decide) rfl rfl rfl ?_
              refine x_goto C dX1_most_108 69 (by decide) ?_
              refine ihs (s + 1) _ (by omega) (fun r q1 q2 u q3 q4 => ?_) (fun u q1 q2 => ?_) (fzJ_sto hf (by omega))
              · rw [sto_n _ _ _ (by omega)]
                exact hrows r q1 q2 u q3 q4
              · rw [sto_at]
                by_cases e : u = s
                · rw [if_pos ⟨rfl, e⟩, e]
                · rw [if_neg (fun q => e q.2)]
                  exact hrow u (by omega) q2
        refine x_iload C dX1_most_61 63 rfl rfl ?_
        refine x_iflt C dX1_most_63 66 117 rfl (by decide) (fun h63 => absurd h63 (nI_nn (by omega))) (fun _ => ?_)
        refine x_ic (j := 0) C dX1_most_66 67 rfl ?_
        refine x_istore C dX1_most_67 69 rfl [_, _, _, _, _, _] (by decide) rfl rfl ?_
        exact hC2 1024 0 J1 rfl hrows (fun u q => absurd q (Nat.not_lt_zero _)) hf
    have hg := hC.2.2.2.2.1 n (by omega)
    have hA : ∀ (j s : Nat) (J1 : Ml), s + j = 1024 → (∀ u, u < s → J1 (73 + n) u = nL 0) → fzJ J J1 → XX w κ (Zr w κ (Qj (sp_most T (nI t)) S I J)) 0 0 26 [some (.ref 0), some (.int (nI t)), some (.ref (ta K t)), some (.int (nI (al T t))), some (.int (nI s)), none] [] S I J1 := by
      intro j
      induction j with
      | zero =>
        intro s J1 e hrow hf
        have e : s = 1024 := e
        subst e
        refine x_iload C dX1_most_26 28 rfl rfl ?_
        refine x_sip (j := 1024) C dX1_most_28 31 rfl (by decide) ?_
        refine x_icmpgeN C dX1_most_31 34 53 rfl (by decide) (by omega) (by omega) (fun _ => ?_) (fun h31 => absurd h31 (by decide))
        refine x_aloadr_n C dX1_most_53 54 rfl rfl ?_
        refine x_geti C fl_X1_128 (Or.inl rfl) dX1_most_54 57 rfl (ct_T hR ht) ((ct_roomMany hR ht).trans ((tk_r hI (by omega)).trans (congrArg nI hn))) ?_
        refine x_ic (j := 1) C dX1_most_57 58 rfl ?_
        refine x_isub C dX1_most_58 59 rfl rfl ?_
        refine x_istore C dX1_most_59 61 rfl [_, _, _, _, _, _] (by decide) rfl rfl ?_
        refine hB n J1 (Nat.le_refl _) (fun r q1 q2 u q3 q4 => ?_) hf
        rw [show r = n by omega, Nat.sub_self]
        exact hrow u q3
      | succ j ihs =>
        intro s J1 e hrow hf
        refine x_iload C dX1_most_26 28 rfl rfl ?_
        refine x_sip (j := 1024) C dX1_most_28 31 rfl (by decide) ?_
        refine x_icmpgeN C dX1_most_31 34 53 rfl (by decide) (by omega) (by omega) (fun h31 => absurd h31 (by omega)) (fun _ => ?_)
        refine x_aloadr_n C dX1_most_34 35 rfl rfl ?_
        refine x_getr C fl_X1_67 (Or.inr ⟨_, rfl⟩) dX1_most_35 38 rfl hC.1 (coR_worths hC) ?_
        refine x_aloadr_n C dX1_most_38 39 rfl rfl ?_
        refine x_geti C fl_X1_128 (Or.inl rfl) dX1_most_39 42 rfl (ct_T hR ht) ((ct_roomMany hR ht).trans ((tk_r hI (by omega)).trans (congrArg nI hn))) ?_
        refine x_aaldr (t := 10) C dX1_most_42 43 rfl (coA_worths hC) (by decide) (coN_worths hC) rfl (by omega) (by decide) hg.1 ?_
        refine x_iload C dX1_most_43 45 rfl rfl ?_
        refine x_lc (v := 0) C dX1_most_45 46 rfl rfl ?_
        refine x_last C dX1_most_46 47 rfl hg.2.1 hg.2.2 rfl (by omega) (by decide) ?_
        refine x_iinc C dX1_most_47 50 rfl [_, _, _, _, _, _] (nI_inc _) (by decide) rfl rfl rfl ?_
        refine x_goto C dX1_most_50 26 (by decide) ?_
        refine ihs (s + 1) _ (by omega) (fun u q1 => ?_) (fzJ_sto hf (by omega))
        rw [sto_at]
        by_cases e : u = s
        · rw [if_pos ⟨rfl, e⟩]
          rfl
        · rw [if_neg (fun q => e q.2)]
          exact hrow u (by omega)
    refine x_aloadr_n C dX1_most_10 11 rfl rfl ?_
    refine x_getr C fl_X1_17 (Or.inr ⟨_, rfl⟩) dX1_most_11 14 rfl hC.1 (coR_towns hC) ?_
    refine x_iload_n C dX1_most_14 15 rfl rfl ?_
    refine x_aaldr (t := 5) C dX1_most_15 16 rfl (coA_towns hC) (by decide) (coN_towns hC) rfl (by omega) (by decide) (ct_elt hR ht) ?_
    refine x_astorer_n C dX1_most_16 17 rfl [_, _, _, _, _, _] (by decide) rfl rfl ?_
    refine x_aloadr_n C dX1_most_17 18 rfl rfl ?_
    refine x_iload_n C dX1_most_18 19 rfl rfl ?_
    refine x_callV C lk_X1_255 dX1_most_19 22 rfl [_] [] rfl rfl hC.1 (Nat.le_of_ble_eq_true rfl) (by decide) (Nat.le_refl _) (Nat.le_refl _) (kX1_there hR hI (by omega)) ?_
    rintro _ _ _ _ ⟨rfl, rfl, rfl, rfl⟩
    refine x_istore_n C dX1_most_22 23 rfl [_, _, _, _, _, _] (by decide) rfl rfl ?_
    refine x_ic (j := 0) C dX1_most_23 24 rfl ?_
    refine x_istore C dX1_most_24 26 rfl [_, _, _, _, _, _] (by decide) rfl rfl ?_
    exact hA 1024 0 J rfl (fun u q => absurd q (Nat.not_lt_zero _)) fzJ_rfl
  · refine x_icm C dX1_most_8 9 rfl ?_
    exact x_iret C dX1_most_9 (Nat.le_refl _) (Nat.le_refl _) (Qj_of (by simp [sp_most, h5]) fzJ_rfl)
end Co25
