/-! the component: who leaves -/
theorem Tok_lv {T : Mi} (hI : Tok T) {p : Nat} {fr tt : Int32} {t : Nat} (hb : nn T + cnt (lvP T p fr tt) t ≤ 500) : Tok (lvS T p fr tt t) := by
  obtain ⟨g1, g2, g3, g4, g5, g6, g7, g8⟩ := hI
  unfold Tok
  have r := fun (i : Nat) (h : i ≠ 26) => lvS_473 T p fr tt h t
  rw [r 1 (by decide), r 11 (by decide), r 12 (by decide), r 13 (by decide), r 41 (by decide), r 63 (by decide), lvS_cnt T p fr tt g5.1, lvS_row T p fr tt (by decide)]
  have hb : nt (T 473 26) + cnt (lvP T p fr tt) t ≤ 500 := hb
  refine ⟨g1, g2, g3, g4, ⟨?_, ?_⟩, g6, g7, g8⟩
  · rw [nt_nI (by omega)]
  · rw [nt_nI (by omega)]
    exact hb
section Co7
variable {w : Wd} {l : Launch} {K : Ly} {S : Sh} {I T : Mi} {J : Ml}
theorem kX1_falls (hR : CoR K S I T) (hI : Tok T) {t p : Nat} {g : Bool} {fr tt : Int32} (ht : t < tn T) (hp : p < 10) : Ct w l yX1_falls cX1_falls 6 (some .boolean) 2 0 0 [.ref 0, .int (nI t), .int (nI p), .int (bz g), .int fr, .int tt] S I J (Qe (some (.int (bz (!ovB T t && decide (¬ T 490 (10 * t + p) = -1) && (g || !inB (nI t) fr tt))))) S I J) := by
  refine Ct.of [some _, some _, some _, some _, some _, some _] rfl (Nat.le_of_ble_eq_true rfl) (by decide) ?_
  intro κ hκ C
  subst hκ
  have hC := cr_S hR
  have hp10 := tk_p2 hI
  have ht6 := tk_t2 hI
  have hg30 := tk_g2 hI
  have hc30 := tk_c2 hI
  have hn500 := tk_n2 hI
  refine x_aloadr_n C dX1_falls_0 1 rfl rfl ?_
  refine x_iload_n C dX1_falls_1 2 rfl rfl ?_
  refine x_callV C lk_X1_157 dX1_falls_2 5 rfl [_] [] rfl rfl hC.1 (Nat.le_of_ble_eq_true rfl) (by decide) (Nat.le_refl _) (Nat.le_refl _) (kX1_isOver hR hI ht) ?_
  rintro _ _ _ _ ⟨rfl, rfl, rfl, rfl⟩
  refine x_ifneZ C dX1_falls_5 8 42 rfl (by decide) (fun h5 => ?_) (fun h5 => ?_)
  · refine x_ic (j := 0) C dX1_falls_42 43 rfl ?_
    exact x_zret C dX1_falls_43 (Nat.le_refl _) (Nat.le_refl _) rfl (Qz_of (by simp [bzt, bzf, h5]))
  · refine x_aloadr_n C dX1_falls_8 9 rfl rfl ?_
    refine x_getr C fl_X1_17 (Or.inr ⟨_, rfl⟩) dX1_falls_9 12 rfl hC.1 (coR_towns hC) ?_
    refine x_iload_n C dX1_falls_12 13 rfl rfl ?_
    refine x_aaldr (t := 5) C dX1_falls_13 14 rfl (coA_towns hC) (by decide) (coN_towns hC) rfl (by omega) (by decide) (ct_elt hR ht) ?_
    refine x_getr C fl_X1_148 (Or.inr ⟨_, rfl⟩) dX1_falls_14 17 rfl (ct_T hR ht) (ct_list hR ht) ?_
    refine x_iload_n C dX1_falls_17 18 rfl rfl ?_
    refine x_iald C dX1_falls_18 19 rfl (ct_listA hR ht) (ct_listN hR ht) rfl (by omega) (by decide) (ct_listI hR ht _ (by omega)) ?_
    refine x_icm C dX1_falls_19 20 rfl ?_
    refine x_icmpeq C dX1_falls_20 23 42 rfl (by decide) (fun h20 => ?_) (fun h20 => ?_)
    · refine x_ic (j := 0) C dX1_falls_42 43 rfl ?_
      exact x_zret C dX1_falls_43 (Nat.le_refl _) (Nat.le_refl _) rfl (Qz_of (by simp [bzt, bzf, h5, h20]))
    · refine x_iload_n C dX1_falls_23 24 rfl rfl ?_
      refine x_ifneZ C dX1_falls_24 27 38 rfl (by decide) (fun h24 => ?_) (fun h24 => ?_)
      · refine x_ic (j := 1) C dX1_falls_38 39 rfl ?_
        refine x_goto C dX1_falls_39 43 (by decide) ?_
        exact x_zret C dX1_falls_43 (Nat.le_refl _) (Nat.le_refl _) rfl (Qz_of (by simp [bzt, bzf, h5, h20, h24]))
      · refine x_iload_n C dX1_falls_27 28 rfl rfl ?_
        refine x_iload C dX1_falls_28 30 rfl rfl ?_
        refine x_iload C dX1_falls_30 32 rfl rfl ?_
        refine x_callS C lk_X1_108 dX1_falls_32 35 rfl [_, _, _] [] rfl rfl (Nat.le_of_ble_eq_true rfl) (by decide) (Nat.le_refl _) (Nat.le_refl _) kX1_in ?_
        rintro _ _ _ _ ⟨rfl, rfl, rfl, rfl⟩
        refine x_ifneZ C dX1_falls_35 38 42 rfl (by decide) (fun h35 => ?_) (fun h35 => ?_)
        · refine x_ic (j := 0) C dX1_falls_42 43 rfl ?_
          exact x_zret C dX1_falls_43 (Nat.le_refl _) (Nat.le_refl _) rfl (Qz_of (by simp [bzt, bzf, h5, h20, h24, h35]))
        · refine x_ic (j := 1) C dX1_falls_38 39 rfl ?_
          refine x_goto C dX1_falls_39 43 (by decide) ?_
          exact x_zret C dX1_falls_43 (Nat.le_refl _) (Nat.le_refl _) rfl (Qz_of (by simp [bzt, bzf, h5, h20, h24, h35]))
/-- the answer, where the shape stays -/
def Ql (q : Bool × Mi) (K : Ly) (S : Sh) (I : Mi) (J : Ml) : Option Value → Sh → Mi → Ml → Prop := Qk (some (.int (bz q.1))) q.2 K S I J
theorem kX1_leaves (hR : CoR K S I T) (hI : Tok T) {p : Nat} {g : Bool} {fr tt fr' tt' : Int32} (hp : p < 10) (hq : ∀ t, t < 6 → (g || !inB (nI t) fr tt) = !inB (nI t) fr' tt') : Ct w l yX1_leaves cX1_leaves 7 (some .boolean) 3 0 0 [.ref 0, .int (nI p), .int (bz g), .int fr, .int tt] S I J (Ql (sp_leaves T p fr' tt' (tn T)) K S I J) := by
  have hfl : ∀ t, t < tn T → (!ovB T t && decide (¬ T 490 (10 * t + p) = -1) && (g || !inB (nI t) fr tt)) = lvP T p fr' tt' t := by
    intro t ht
    rw [hq t (by have := tk_t2 hI; omega)]
    unfold lvP
    cases ovB T t <;> cases inB (nI t) fr' tt' <;> simp
  refine Ct.of [some _, some _, some _, some _, some _, none, none] rfl (Nat.le_of_ble_eq_true rfl) (by decide) ?_
  intro κ hκ C
  subst hκ
  have hC := cr_S hR
  have hp10 := tk_p2 hI
  have ht6 := tk_t2 hI
  have hg30 := tk_g2 hI
  have hc30 := tk_c2 hI
  have hn500 := tk_n2 hI
  have hl2 : nn T + cnt (lvP T p fr' tt') (tn T) ≤ 500 → ∀ (j t : Nat) (M : Mi), t + j = tn T → CoR K S M (lvS T p fr' tt' t) → fzI I M → XX w κ (Zr w κ (Ql (sp_leaves T p fr' tt' (tn T)) K S I J)) 0 0 63 [some (.ref 0), some (.int (nI p)), some (.int (bz g)), some (.int fr), some (.int tt), none, some (.int (nI t))] [] S M J := by
    intro hb j
    induction j with
    | zero =>
      intro t M e hM hf
      have et : t = tn T := e
      have h11 : M 0 3 = nI (tn T) := ((cs_townMany hM).trans (lvS_473 T p fr' tt' (by decide) _)).trans (tk_t hI)
      refine x_iload C dX1_leaves_63 65 rfl rfl ?_
      refine x_aloadr_n C dX1_leaves_65 66 rfl rfl ?_
      refine x_geti C fl_X1_112 (Or.inl rfl) dX1_leaves_66 69 rfl hC.1 h11 ?_
      refine x_icmpgeN C dX1_leaves_69 72 100 rfl (by decide) (by omega) (by omega) (fun _ => ?_) (fun h69 => absurd h69 (by omega))
      refine x_ic (j := 1) C dX1_leaves_100 101 rfl ?_
      exact x_zret C dX1_leaves_101 (Nat.le_refl _) (Nat.le_refl _) rfl (show Ql (sp_leaves T p fr' tt' (tn T)) K S I J _ _ _ _ by unfold sp_leaves; rw [if_pos hb]; exact Qk_of (r := some (.int (bz true))) (by rw [← et]; exact hM) hf)
    | succ j ih =>
      intro t M e hM hf
      have htt : t < tn T := by omega
      have h11 : M 0 3 = nI (tn T) := ((cs_townMany hM).trans (lvS_473 T p fr' tt' (by decide) _)).trans (tk_t hI)
      have hc1 := cnt_mono (lvP T p fr' tt') (show t ≤ tn T by omega)
      have hIM : Tok (lvS T p fr' tt' t) := Tok_lv hI (by omega)
      have htn : tn (lvS T p fr' tt' t) = tn T := by show nt _ = nt _; rw [lvS_473 T p fr' tt' (by decide)]
      have eov : ovB (lvS T p fr' tt' t) t = ovB T t := by
        unfold ovB
        rw [lvS_row T p fr' tt' (by decide) t, lvS_row T p fr' tt' (by decide) t, lvS_473 T p fr' tt' (by decide) t]
      have el : lvS T p fr' tt' t 490 (10 * t + p) = T 490 (10 * t + p) := lvS_list T p hp fr' tt' _ t (by omega)
      have en : nn (lvS T p fr' tt' t) = nn T + cnt (lvP T p fr' tt') t := by show nt _ = _; rw [lvS_cnt T p fr' tt' (tk_n hI), nt_nI (by omega)]
      refine x_iload C dX1_leaves_63 65 rfl rfl ?_
      refine x_aloadr_n C dX1_leaves_65 66 rfl rfl ?_
      refine x_geti C fl_X1_112 (Or.inl rfl) dX1_leaves_66 69 rfl hC.1 h11 ?_
      refine x_icmpgeN C dX1_leaves_69 72 100 rfl (by decide) (by omega) (by omega) (fun h69 => absurd h69 (by omega)) (fun _ => ?_)
      refine x_aloadr_n C dX1_leaves_72 73 rfl rfl ?_
      refine x_iload C dX1_leaves_73 75 rfl rfl ?_
      refine x_iload_n C dX1_leaves_75 76 rfl rfl ?_
      refine x_iload_n C dX1_leaves_76 77 rfl rfl ?_
      refine x_iload_n C dX1_leaves_77 78 rfl rfl ?_
      refine x_iload C dX1_leaves_78 80 rfl rfl ?_
      refine x_callV C lk_X1_160 dX1_leaves_80 83 rfl [_, _, _, _, _] [] rfl rfl hC.1 (Nat.le_of_ble_eq_true rfl) (by decide) (Nat.le_refl _) (Nat.le_refl _) (kX1_falls hM hIM (by omega) hp) ?_
      rintro _ _ _ _ ⟨rfl, rfl, rfl, rfl⟩
      rw [eov, el, hfl t htt]
      refine x_ifeqZ C dX1_leaves_83 86 94 rfl (by decide) (fun h83 => ?_) (fun h83 => ?_)
      · have e63 : CoR K S M (lvS T p fr' tt' (t + 1)) := by { rw [lvS, if_neg (by rw [h83]; decide)]; exact hM }
        refine x_iinc C dX1_leaves_94 97 rfl [_, _, _, _, _, _, _] (nI_inc _) (by decide) rfl rfl rfl ?_
        refine x_goto C dX1_leaves_97 63 (by decide) ?_
        exact ih (t + 1) _ (by omega) e63 hf
      · have hc2 := cnt_mono (lvP T p fr' tt') (show t + 1 ≤ tn T by omega)
        rw [cnt_t h83] at hc2
        refine x_aloadr_n C dX1_leaves_86 87 rfl rfl ?_
        refine x_iload C dX1_leaves_87 89 rfl rfl ?_
        refine x_iload_n C dX1_leaves_89 90 rfl rfl ?_
        refine x_icm C dX1_leaves_90 91 rfl ?_
        refine x_callV C lk_X1_164 dX1_leaves_91 94 rfl [_, _, _] [] rfl rfl hC.1 (Nat.le_of_ble_eq_true rfl) (by decide) (Nat.le_refl _) (Nat.le_refl _) (kX1_note hM hIM (by omega) hp (by omega)) ?_
        rintro _ _ M2 _ ⟨rfl, rfl, rfl, hM2, hf2⟩
        have e63 : CoR K S M2 (lvS T p fr' tt' (t + 1)) := by { rw [lvS, if_pos h83]; exact hM2 }
        have hf := fz_tr hf hf2
        refine x_iinc C dX1_leaves_94 97 rfl [_, _, _, _, _, _, _] (nI_inc _) (by decide) rfl rfl rfl ?_
        refine x_goto C dX1_leaves_97 63 (by decide) ?_
        exact ih (t + 1) _ (by omega) e63 hf
  refine x_ic (j := 0) C dX1_leaves_0 1 rfl ?_
  refine x_istore C dX1_leaves_1 3 rfl [_, _, _, _, _, _, _] (by decide) rfl rfl ?_
  refine x_ic (j := 0) C dX1_leaves_3 4 rfl ?_
  refine x_istore C dX1_leaves_4 6 rfl [_, _, _, _, _, _, _] (by decide) rfl rfl ?_
  have hloop6 : ∀ (j t : Nat) (c : Nat), t + j = (tn T) → c = cnt (lvP T p fr' tt') t → XX w κ (Zr w κ (Ql (sp_leaves T p fr' tt' (tn T)) K S I J)) 0 0 6 [some (.ref 0), some (.int (nI p)), some (.int (bz g)), some (.int fr), some (.int tt), some (.int (nI c)), some (.int (nI t))] [] S I J := by
    intro j
    induction j with
    | zero =>
      intro t c e6 h_c
      have e6 : (tn T) = t := Eq.symm e6
      subst e6
      subst h_c
      have hcl := cnt_le (lvP T p fr' tt') (tn T)
      refine x_iload C dX1_leaves_6 8 rfl rfl ?_
      refine x_aloadr_n C dX1_leaves_8 9 rfl rfl ?_
      refine x_geti C fl_X1_112 (Or.inl rfl) dX1_leaves_9 12 rfl hC.1 ((cs_townMany hR).trans (tk_t (I := T) hI)) ?_
      refine x_icmpgeN C dX1_leaves_12 15 45 rfl (by decide) (by omega) (by omega) (fun _ => ?_) (fun h12 => absurd h12 (by omega))
      refine x_aloadr_n C dX1_leaves_45 46 rfl rfl ?_
      refine x_geti C fl_X1_151 (Or.inl rfl) dX1_leaves_46 49 rfl hC.1 ((cs_noteMany hR).trans (tk_n (I := T) hI)) ?_
      refine x_iload C dX1_leaves_49 51 rfl rfl ?_
      refine x_iadd C dX1_leaves_51 52 rfl (nI_add _ _) ?_
      refine x_sip (j := 500) C dX1_leaves_52 55 rfl (by decide) ?_
      refine x_icmpleN C dX1_leaves_55 58 60 rfl (by decide) (by omega) (by omega) (fun h55 => ?_) (fun h55 => ?_)
      · refine x_ic (j := 0) C dX1_leaves_60 61 rfl ?_
        refine x_istore C dX1_leaves_61 63 rfl [_, _, _, _, _, _, _] (by decide) rfl rfl ?_
        refine x_ls [some _, some _, some _, some _, some _, none, some _] ⟨rfl, rfl, rfl, rfl, rfl, rfl, trivial⟩ ?_
        exact hl2 (by omega) (tn T) 0 _ (Nat.zero_add _) hR fz_rfl
      · refine x_ic (j := 0) C dX1_leaves_58 59 rfl ?_
        exact x_zret C dX1_leaves_59 (Nat.le_refl _) (Nat.le_refl _) rfl (show Ql (sp_leaves T p fr' tt' (tn T)) K S I J _ _ _ _ by unfold sp_leaves; rw [if_neg (show ¬ nn T + cnt (lvP T p fr' tt') (tn T) ≤ 500 by omega)]; exact Qk_of (r := some (.int (bz false))) hR fz_rfl)
    | succ j ih6 =>
      intro t c e6 h_c
      refine x_iload C dX1_leaves_6 8 rfl rfl ?_
      refine x_aloadr_n C dX1_leaves_8 9 rfl rfl ?_
      refine x_geti C fl_X1_112 (Or.inl rfl) dX1_leaves_9 12 rfl hC.1 ((cs_townMany hR).trans (tk_t (I := T) hI)) ?_
      refine x_icmpgeN C dX1_leaves_12 15 45 rfl (by decide) (by omega) (by omega) (fun h12 => absurd h12 (by omega)) (fun _ => ?_)
      refine x_iload C dX1_leaves_15 17 rfl rfl ?_
      refine x_aloadr_n C dX1_leaves_17 18 rfl rfl ?_
      refine x_iload C dX1_leaves_18 20 rfl rfl ?_
      refine x_iload_n C dX1_leaves_20 21 rfl rfl ?_
      refine x_iload_n C dX1_leaves_21 22 rfl rfl ?_
      refine x_iload_n C dX1_leaves_22 23 rfl rfl ?_
      refine x_iload C dX1_leaves_23 25 rfl rfl ?_
      refine x_callV C lk_X1_160 dX1_leaves_25 28 rfl [_, _, _, _, _] [_] rfl rfl hC.1 (Nat.le_of_ble_eq_true rfl) (by decide) (Nat.le_refl _) (Nat.le_refl _) (kX1_falls hR hI (by omega) hp) ?_
      rintro _ _ _ _ ⟨rfl, rfl, rfl, rfl⟩
      rw [hfl t (by omega)]
      apply x_jNN (pj := 36) (fun kt kf => x_ifeqZ C dX1_leaves_28 31 35 rfl (by decide) (fun h => kt (by simp [h])) kf)
      case ht =>
        intro K
        refine x_ic (j := 0) C dX1_leaves_35 36 rfl ?_
        exact K
      case hf =>
        intro K
        refine x_ic (j := 1) C dX1_leaves_31 32 rfl ?_
        refine x_goto C dX1_leaves_32 36 (by decide) ?_
        exact K
      refine x_iadd C dX1_leaves_36 37 rfl (nI_add _ _) ?_
      refine x_istore C dX1_leaves_37 39 rfl [_, _, _, _, _, _, _] (by decide) rfl rfl ?_
      refine x_iinc C dX1_leaves_39 42 rfl [_, _, _, _, _, _, _] (nI_inc _) (by decide) rfl rfl rfl ?_
      refine x_goto C dX1_leaves_42 6 (by decide) ?_
      exact (ih6 (t + 1) _ (by omega) (by first | (simp only [cnt]; done) | (cases hb : lvP T p fr' tt' t <;> simp [cnt, hb, h_c])))
  exact hloop6 (tn T) 0 _ (Nat.zero_add _) rfl
end Co7
