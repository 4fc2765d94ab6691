/-! the component: billOf -/
section Co45
variable {w : Wd} {l : Launch} {K : Ly} {S : Sh} {I T : Mi} {J : Ml}
theorem bsM_c {p : Nat → Nat} {a b : Nat → Bool} : ∀ {n : Nat}, (∀ i, i < n → a i = b i) → bsM p a n = bsM p b n
  | 0, _ => rfl
  | n + 1, h => by
    unfold bsM
    rw [h n (by omega), bsM_c (fun i hi => h i (by omega))]
theorem msk_set {P Q : Nat → Bool} {q : Nat} (h : ∀ i, Q i = (decide (i = q) || P i)) {n : Nat} (hq : q < n) : msk Q n = msk P n ||| 2 ^ q := by
  refine Nat.eq_of_testBit_eq (fun i => ?_)
  rw [Nat.testBit_or, msk_bit, msk_bit, Nat.testBit_two_pow, h]
  by_cases e : i = q
  · subst e
    simp [hq]
  · have e' : ¬ q = i := fun z => e z.symm
    simp [e, e']
theorem smP_set {P Q : Nat → Bool} {p : Nat → Nat} {q : Nat} (h : ∀ i, Q i = (decide (i = q) || P i)) (hP : P q = false) : ∀ n, smP Q p n = smP P p n + (if q < n then p q else 0)
  | 0 => rfl
  | n + 1 => by
    rw [smP, smP, smP_set h hP n, h n]
    by_cases e : n = q
    · subst e
      simp [hP]
    · have e' : (q < n + 1) ↔ q < n := by omega
      simp only [e, decide_false, Bool.false_or, e']
      omega
theorem kX1_billOf (hR : CoR K S I T) (hI : Tok T) (hL : LsOk T) {t f : Nat} (ht : t < tn T) (hpr : prOk T t) (hf : f ≤ 100) : Ct w l yX1_billOf cX1_billOf 8 (some .int) 3 0 0 [.ref 0, .ref (ta K t), .int (nI f)] S I J (Qe (some (.int (biI T t f))) S I J) := by
  have hr10 := tk_r2 hI (show t < 6 by have := tk_t2 hI; omega)
  have hp10 := tk_p2 hI
  have hu : usedN T (pn T) t (rn T t) ≤ rn T t := cnt_le _ _
  rw [biI_eq hpr]
  refine Ct.of [some _, some _, some _, none, none, none, none, none] rfl (Nat.le_of_ble_eq_true rfl) (by decide) ?_
  intro κ hκ C
  subst hκ
  have hC := cr_S hR
  have hp10 := tk_p2 hI
  have ht6 := tk_t2 hI
  have hg30 := tk_g2 hI
  have hc30 := tk_c2 hI
  have hn500 := tk_n2 hI
  obtain ⟨us, hus⟩ : ∃ us, us = usB T t := ⟨_, rfl⟩
  obtain ⟨tk, htk⟩ : ∃ tk, tk = tkM (pxN T t) (usB T t) (rn T t) := ⟨_, rfl⟩
  have hl : ∀ (j k : Nat), k + j = rn T t → k ≤ usedN T (pn T) t (rn T t) - f → XX w κ (Zr w κ (Qe (some (.int (nI (smP (tkM (pxN T t) (usB T t) (rn T t) (usedN T (pn T) t (rn T t) - f)) (pxN T t) (rn T t))))) S I J)) 0 0 8 [some (.ref 0), some (.ref (ta K t)), some (.int (nI f)), some (.int (nI (smP (tk k) (pxN T t) (rn T t)))), some (.int (nI (msk (tk k) (rn T t)))), some (.int (nI k)), none, none] [] S I J := by
    intro j
    induction j with
    | zero =>
      intro k ek hk
      have ek : k = rn T t := ek
      refine x_iload C dX1_billOf_8 10 rfl rfl ?_
      refine x_aloadr_n C dX1_billOf_10 11 rfl rfl ?_
      refine x_geti C fl_X1_128 (Or.inl rfl) dX1_billOf_11 14 rfl (ct_T hR ht) ((ct_roomMany hR ht).trans (tk_r (I := T) hI (by omega))) ?_
      refine x_icmpgeN C dX1_billOf_14 17 137 rfl (by decide) (by omega) (by omega) (fun _ => ?_) (fun h14 => absurd h14 (by omega))
      refine x_iload_n C dX1_billOf_137 138 rfl rfl ?_
      exact x_iret C dX1_billOf_138 (Nat.le_refl _) (Nat.le_refl _) (Qe_of (by rw [htk, show usedN T (pn T) t (rn T t) - f = k by omega]))
    | succ j ih =>
      intro k ek hk
      have hkn : k < rn T t := by omega
      have hucnt := us_cnt (T := T) (t := t)
      have hT := tkM_spec (p := pxN T t) (us := usB T t) (n := rn T t) (k := k) (by omega)
      rw [← htk] at hT
      have hav : ∀ r, r < rn T t → (si T (pn T) t (nI r) = 0 ↔ usB T t r = false) := fun r hr => by
        unfold usB fr0
        simp
      have hml : msk (tk k) (rn T t) < 1024 := Nat.lt_of_lt_of_le (msk_lt _ _) (Nat.pow_le_pow_right (by decide) hr10)
      have h90 : XX w κ (Zr w κ (Qe (some (.int (nI (smP (tkM (pxN T t) (usB T t) (rn T t) (usedN T (pn T) t (rn T t) - f)) (pxN T t) (rn T t))))) S I J)) 0 0 90 [some (.ref 0), some (.ref (ta K t)), some (.int (nI f)), some (.int (nI (smP (tk k) (pxN T t) (rn T t)))), some (.int (nI (msk (tk k) (rn T t)))), some (.int (nI k)), some (.int (oI (bsM (pxN T t) (fun j => usB T t j && !tk k j) (rn T t)))), none] [] S I J := by
        rcases bsM_spec (p := pxN T t) (av := fun j => usB T t j && !tk k j) (n := rn T t) with ⟨g1, g2⟩ | ⟨q, g1, g2, g3, g4⟩
        · rw [g1]
          have hku : k = usedN T (pn T) t (rn T t) - f := by
            have c1 := cnt_sp (P := usB T t) (Q := tk k) (rn T t)
            rw [cnt_z (P := fun i => usB T t i && !tk k i) g2] at c1
            have : cnt (fun i => usB T t i && tk k i) (rn T t) ≤ cnt (tk k) (rn T t) := cnt_imp (fun i h => (Bool.and_eq_true_iff.mp h).2) _
            omega
          refine x_iload C dX1_billOf_90 92 rfl rfl ?_
          refine x_icm C dX1_billOf_92 93 rfl ?_
          refine x_icmpeq C dX1_billOf_93 96 107 rfl (by decide) (fun _ => ?_) (fun h93 => absurd h93 (not_not_intro rfl))
          refine x_iload_n C dX1_billOf_107 108 rfl rfl ?_
          exact x_iret C dX1_billOf_108 (Nat.le_refl _) (Nat.le_refl _) (Qe_of (by rw [htk, ← hku]))
        · rw [g1]
          show XX w κ (Zr w κ (Qe (some (.int (nI (smP (tkM (pxN T t) (usB T t) (rn T t) (usedN T (pn T) t (rn T t) - f)) (pxN T t) (rn T t))))) S I J)) 0 0 90 [some (.ref 0), some (.ref (ta K t)), some (.int (nI f)), some (.int (nI (smP (tk k) (pxN T t) (rn T t)))), some (.int (nI (msk (tk k) (rn T t)))), some (.int (nI k)), some (.int (nI q)), none] [] S I J
          obtain ⟨gu, gt⟩ := Bool.and_eq_true_iff.mp g3
          have gt : tk k q = false := by simpa using gt
          have hset : ∀ i, tk (k + 1) i = (decide (i = q) || tk k i) := fun i => by
            rw [htk]
            show (tkM (pxN T t) (usB T t) (rn T t) k i || decide (bsM (pxN T t) (fun j => usB T t j && !tkM (pxN T t) (usB T t) (rn T t) k j) (rn T t) = some i)) = _
            rw [htk] at g1
            rw [g1, Bool.or_comm]
            congr 1
            by_cases e : i = q
            · rw [e]; simp
            · have : ¬ q = i := fun z => e z.symm
              simp [e, this]
          refine x_iload C dX1_billOf_90 92 rfl rfl ?_
          refine x_icm C dX1_billOf_92 93 rfl ?_
          refine x_icmpeq C dX1_billOf_93 96 107 rfl (by decide) (fun h93 => absurd h93 (nI_m1 (by omega))) (fun _ => ?_)
          refine x_iload C dX1_billOf_96 98 rfl rfl ?_
          refine x_aloadr_n C dX1_billOf_98 99 rfl rfl ?_
          refine x_callV C lk_X1_339 dX1_billOf_99 102 rfl [] [_] rfl rfl (ct_T hR ht) (Nat.le_of_ble_eq_true rfl) (by decide) (Nat.le_refl _) (Nat.le_refl _) (kX5_used hR hI hL ht) ?_
          rintro _ _ _ _ ⟨rfl, rfl, rfl, rfl⟩
          refine x_iload_n C dX1_billOf_102 103 rfl rfl ?_
          refine x_isub C dX1_billOf_103 104 rfl rfl ?_
          refine x_icmplt C dX1_billOf_104 107 109 rfl (by decide) (fun h104 => ?_) (fun h104 => ?_)
          · have e104 := (sub_lt (by omega) (by omega) (by omega)).mp h104
            refine x_iload C dX1_billOf_109 111 rfl rfl ?_
            refine x_ic (j := 1) C dX1_billOf_111 112 rfl ?_
            refine x_iload C dX1_billOf_112 114 rfl rfl ?_
            refine x_ishl C dX1_billOf_114 115 rfl (nI_shl1' _ (by omega)) ?_
            refine x_ior C dX1_billOf_115 116 rfl (nI_or _ _) ?_
            refine x_istore C dX1_billOf_116 118 rfl [_, _, _, _, _, _, _, _] (by decide) rfl rfl ?_
            refine x_iload_n C dX1_billOf_118 119 rfl rfl ?_
            refine x_aloadr_n C dX1_billOf_119 120 rfl rfl ?_
            refine x_getr C fl_X1_187 (Or.inr ⟨_, rfl⟩) dX1_billOf_120 123 rfl (ct_T hR ht) (ct_rooms hR ht) ?_
            refine x_iload C dX1_billOf_123 125 rfl rfl ?_
            refine x_aaldr (t := 6) C dX1_billOf_125 126 rfl (ct_roomsA hR ht) (by decide) (ct_roomsN hR ht) rfl (by omega) (by decide) (cm_elt hR ht g2) ?_
            refine x_geti C fl_X1_235 (Or.inl rfl) dX1_billOf_126 129 rfl (cm_T hR ht g2) ((cm_price hR ht g2).trans (px_ok hpr g2).1) ?_
            refine x_iadd C dX1_billOf_129 130 rfl (nI_add _ _) ?_
            refine x_istore_n C dX1_billOf_130 131 rfl [_, _, _, _, _, _, _, _] (by decide) rfl rfl ?_
            refine x_iinc C dX1_billOf_131 134 rfl [_, _, _, _, _, _, _, _] (nI_inc _) (by decide) rfl rfl rfl ?_
            refine x_goto C dX1_billOf_134 8 (by decide) ?_
            refine x_ls [some _, some _, some _, some _, some _, some _, none, none] ⟨rfl, rfl, rfl, rfl, rfl, rfl, trivial⟩ ?_
            have := ih (k + 1) (by omega) (by omega)
            rw [smP_set hset gt, if_pos g2, msk_set hset g2] at this
            exact this
          · have e104 : ¬ k + f < usedN T (pn T) t (rn T t) := fun z => h104 ((sub_lt (by omega) (by omega) (by omega)).mpr z)
            refine x_iload_n C dX1_billOf_107 108 rfl rfl ?_
            exact x_iret C dX1_billOf_108 (Nat.le_refl _) (Nat.le_refl _) (Qe_of (by rw [htk, show usedN T (pn T) t (rn T t) - f = k by omega]))
      have hr : ∀ (j r : Nat), r + j = rn T t → XX w κ (Zr w κ (Qe (some (.int (nI (smP (tkM (pxN T t) (usB T t) (rn T t) (usedN T (pn T) t (rn T t) - f)) (pxN T t) (rn T t))))) S I J)) 0 0 23 [some (.ref 0), some (.ref (ta K t)), some (.int (nI f)), some (.int (nI (smP (tk k) (pxN T t) (rn T t)))), some (.int (nI (msk (tk k) (rn T t)))), some (.int (nI k)), some (.int (oI (bsM (pxN T t) (fun j => usB T t j && !tk k j) r))), some (.int (nI r))] [] S I J := by
        intro j
        induction j with
        | zero =>
          intro r er
          have er : r = rn T t := er
          subst er
          refine x_iload C dX1_billOf_23 25 rfl rfl ?_
          refine x_aloadr_n C dX1_billOf_25 26 rfl rfl ?_
          refine x_geti C fl_X1_128 (Or.inl rfl) dX1_billOf_26 29 rfl (ct_T hR ht) ((ct_roomMany hR ht).trans (tk_r (I := T) hI (by omega))) ?_
          refine x_icmpgeN C dX1_billOf_29 32 90 rfl (by decide) (by omega) (by omega) (fun _ => ?_) (fun h29 => absurd h29 (by omega))
          refine x_ls [some _, some _, some _, some _, some _, some _, some _, none] ⟨rfl, rfl, rfl, rfl, rfl, rfl, rfl, trivial⟩ ?_
          exact h90
        | succ j ihr =>
          intro r er
          have hrr : r < rn T t := by omega
          have hnx := ihr (r + 1) (by omega)
          have hsil := si_lt T t (nI r) hp10
          have hstep : bsM (pxN T t) (fun j => usB T t j && !tk k j) (r + 1) = if (usB T t r && !tk k r) = true then (match bsM (pxN T t) (fun j => usB T t j && !tk k j) r with
            | none => some r
            | some q => if pxN T t q < pxN T t r then some r else some q) else bsM (pxN T t) (fun j => usB T t j && !tk k j) r := rfl
          rw [hstep] at hnx
          have hbit : (msk (tk k) (rn T t)).testBit r = tk k r := by rw [msk_bit, decide_eq_true hrr, Bool.true_and]
          refine x_iload C dX1_billOf_23 25 rfl rfl ?_
          refine x_aloadr_n C dX1_billOf_25 26 rfl rfl ?_
          refine x_geti C fl_X1_128 (Or.inl rfl) dX1_billOf_26 29 rfl (ct_T hR ht) ((ct_roomMany hR ht).trans (tk_r (I := T) hI (by omega))) ?_
          refine x_icmpgeN C dX1_billOf_29 32 90 rfl (by decide) (by omega) (by omega) (fun h29 => absurd h29 (by omega)) (fun _ => ?_)
          refine x_aloadr_n C dX1_billOf_32 33 rfl rfl ?_
          refine x_iload C dX1_billOf_33 35 rfl rfl ?_
          refine x_callV C lk_X1_226 dX1_billOf_35 38 rfl [_] [] rfl rfl (ct_T hR ht) (Nat.le_of_ble_eq_true rfl) (by decide) (Nat.le_refl _) (Nat.le_refl _) (kX5_inside hR hI hL ht (by omega)) ?_
          rintro _ _ _ _ ⟨rfl, rfl, rfl, rfl⟩
          refine x_ifeqN C dX1_billOf_38 41 84 rfl (by decide) (by omega) (fun h38 => ?_) (fun h38 => ?_)
          · rw [if_neg (by rw [(hav r hrr).mp h38]; simp)] at hnx
            refine x_iinc C dX1_billOf_84 87 rfl [_, _, _, _, _, _, _, _] (nI_inc _) (by decide) rfl rfl rfl ?_
            refine x_goto C dX1_billOf_87 23 (by decide) ?_
            exact hnx
          · have u38 : usB T t r = true := by { cases e : usB T t r with | true => rfl | false => exact absurd ((hav r hrr).mpr e) h38 }
            refine x_iload C dX1_billOf_41 43 rfl rfl ?_
            refine x_iload C dX1_billOf_43 45 rfl rfl ?_
            refine x_ishr C dX1_billOf_45 46 rfl (nI_shrp _ _ (by omega) (by omega)) ?_
            refine x_ic (j := 1) C dX1_billOf_46 47 rfl ?_
            refine x_iand C dX1_billOf_47 48 rfl (nI_bit _ _) ?_
            refine x_ifneN C dX1_billOf_48 51 84 rfl (by decide) (by have := bit_lt (msk (tk k) (rn T t)) r; omega) (fun h48 => ?_) (fun h48 => ?_)
            · have t48 : tk k r = true := by { rw [← hbit, ← bit_1]; have := bit_lt (msk (tk k) (rn T t)) r; omega }
              rw [if_neg (by rw [t48]; simp)] at hnx
              refine x_iinc C dX1_billOf_84 87 rfl [_, _, _, _, _, _, _, _] (nI_inc _) (by decide) rfl rfl rfl ?_
              refine x_goto C dX1_billOf_87 23 (by decide) ?_
              exact hnx
            · have t48 : tk k r = false := by { rw [← hbit]; exact (bit_0 _ _).mp h48 }
              rw [if_pos (by rw [u38, t48]; rfl)] at hnx
              rcases bsM_spec (p := pxN T t) (av := fun j => usB T t j && !tk k j) (n := r) with ⟨g1, -⟩ | ⟨q, g1, g2, -, -⟩
              · rw [g1] at hnx ⊢
                refine x_iload C dX1_billOf_51 53 rfl rfl ?_
                refine x_icm C dX1_billOf_53 54 rfl ?_
                refine x_icmpeq C dX1_billOf_54 57 80 rfl (by decide) (fun _ => ?_) (fun h54 => absurd h54 (not_not_intro rfl))
                refine x_iload C dX1_billOf_80 82 rfl rfl ?_
                refine x_istore C dX1_billOf_82 84 rfl [_, _, _, _, _, _, _, _] (by decide) rfl rfl ?_
                refine x_iinc C dX1_billOf_84 87 rfl [_, _, _, _, _, _, _, _] (nI_inc _) (by decide) rfl rfl rfl ?_
                refine x_goto C dX1_billOf_87 23 (by decide) ?_
                exact hnx
              · rw [g1] at hnx ⊢
                dsimp only at hnx
                have hqr : q < rn T t := by omega
                have b1 := (px_ok hpr hqr).2
                have b2 := (px_ok hpr hrr).2
                show XX w κ (Zr w κ (Qe (some (.int (nI (smP (tkM (pxN T t) (usB T t) (rn T t) (usedN T (pn T) t (rn T t) - f)) (pxN T t) (rn T t))))) S I J)) 0 0 51 [some (.ref 0), some (.ref (ta K t)), some (.int (nI f)), some (.int (nI (smP (tk k) (pxN T t) (rn T t)))), some (.int (nI (msk (tk k) (rn T t)))), some (.int (nI k)), some (.int (nI q)), some (.int (nI r))] [] S I J
                refine x_iload C dX1_billOf_51 53 rfl rfl ?_
                refine x_icm C dX1_billOf_53 54 rfl ?_
                refine x_icmpeq C dX1_billOf_54 57 80 rfl (by decide) (fun h54 => absurd h54 (nI_m1 (by omega))) (fun _ => ?_)
                refine x_aloadr_n C dX1_billOf_57 58 rfl rfl ?_
                refine x_getr C fl_X1_187 (Or.inr ⟨_, rfl⟩) dX1_billOf_58 61 rfl (ct_T hR ht) (ct_rooms hR ht) ?_
                refine x_iload C dX1_billOf_61 63 rfl rfl ?_
                refine x_aaldr (t := 6) C dX1_billOf_63 64 rfl (ct_roomsA hR ht) (by decide) (ct_roomsN hR ht) rfl (by omega) (by decide) (cm_elt hR ht hrr) ?_
                refine x_geti C fl_X1_235 (Or.inl rfl) dX1_billOf_64 67 rfl (cm_T hR ht hrr) ((cm_price hR ht hrr).trans (px_ok hpr hrr).1) ?_
                refine x_aloadr_n C dX1_billOf_67 68 rfl rfl ?_
                refine x_getr C fl_X1_187 (Or.inr ⟨_, rfl⟩) dX1_billOf_68 71 rfl (ct_T hR ht) (ct_rooms hR ht) ?_
                refine x_iload C dX1_billOf_71 73 rfl rfl ?_
                refine x_aaldr (t := 6) C dX1_billOf_73 74 rfl (ct_roomsA hR ht) (by decide) (ct_roomsN hR ht) rfl (by omega) (by decide) (cm_elt hR ht hqr) ?_
                refine x_geti C fl_X1_235 (Or.inl rfl) dX1_billOf_74 77 rfl (cm_T hR ht hqr) ((cm_price hR ht hqr).trans (px_ok hpr hqr).1) ?_
                refine x_icmpleN C dX1_billOf_77 80 84 rfl (by decide) (by omega) (by omega) (fun h77 => ?_) (fun h77 => ?_)
                · refine x_iinc C dX1_billOf_84 87 rfl [_, _, _, _, _, _, _, _] (nI_inc _) (by decide) rfl rfl rfl ?_
                  refine x_goto C dX1_billOf_87 23 (by decide) ?_
                  first
                    | (rw [if_neg h77] at hnx; exact hnx)
                    | (rw [if_pos h77] at hnx; exact hnx)
                · refine x_iload C dX1_billOf_80 82 rfl rfl ?_
                  refine x_istore C dX1_billOf_82 84 rfl [_, _, _, _, _, _, _, _] (by decide) rfl rfl ?_
                  refine x_iinc C dX1_billOf_84 87 rfl [_, _, _, _, _, _, _, _] (nI_inc _) (by decide) rfl rfl rfl ?_
                  refine x_goto C dX1_billOf_87 23 (by decide) ?_
                  first
                    | (rw [if_neg h77] at hnx; exact hnx)
                    | (rw [if_pos h77] at hnx; exact hnx)
      refine x_iload C dX1_billOf_8 10 rfl rfl ?_
      refine x_aloadr_n C dX1_billOf_10 11 rfl rfl ?_
      refine x_geti C fl_X1_128 (Or.inl rfl) dX1_billOf_11 14 rfl (ct_T hR ht) ((ct_roomMany hR ht).trans (tk_r (I := T) hI (by omega))) ?_
      refine x_icmpgeN C dX1_billOf_14 17 137 rfl (by decide) (by omega) (by omega) (fun h14 => absurd h14 (by omega)) (fun _ => ?_)
      refine x_icm C dX1_billOf_17 18 rfl ?_
      refine x_istore C dX1_billOf_18 20 rfl [_, _, _, _, _, _, _, _] (by decide) rfl rfl ?_
      refine x_ic (j := 0) C dX1_billOf_20 21 rfl ?_
      refine x_istore C dX1_billOf_21 23 rfl [_, _, _, _, _, _, _, _] (by decide) rfl rfl ?_
      exact hr (rn T t) 0 (Nat.zero_add _)
  refine x_ic (j := 0) C dX1_billOf_0 1 rfl ?_
  refine x_istore_n C dX1_billOf_1 2 rfl [_, _, _, _, _, _, _, _] (by decide) rfl rfl ?_
  refine x_ic (j := 0) C dX1_billOf_2 3 rfl ?_
  refine x_istore C dX1_billOf_3 5 rfl [_, _, _, _, _, _, _, _] (by decide) rfl rfl ?_
  refine x_ic (j := 0) C dX1_billOf_5 6 rfl ?_
  refine x_istore C dX1_billOf_6 8 rfl [_, _, _, _, _, _, _, _] (by decide) rfl rfl ?_
  have h0 := hl (rn T t) 0 (Nat.zero_add _) (Nat.zero_le _)
  have z1 : smP (tk 0) (pxN T t) (rn T t) = 0 := by
    rw [htk, smP_k (c := 0) (fun i _ h => Bool.noConfusion h), Nat.zero_mul]
  have z2 : msk (tk 0) (rn T t) = 0 := by
    rw [htk]
    exact Nat.eq_of_testBit_eq (fun i => by rw [msk_bit, Nat.zero_testBit]; simp [tkM])
  rw [z1, z2] at h0
  exact h0
end Co45
