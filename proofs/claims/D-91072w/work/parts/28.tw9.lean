/-! the twin: sums, tests, wholes, rules -/
abbrev CtR (w : Wd) (l : Launch) (y : MethodName) (c : ByteArray) (nL d : Nat) (S : Sh) (I : Mi) (J : Ml) (n dp : Nat) (f : Tk → PR (Tk × Den)) : Prop :=
  ∀ (t : Tk) (fp : Int32), t.1 ≤ n → t.2.1 ≤ n → Ct w l y c nL (some .int) d 0 0 [.ref 473] S (tmI I (nI t.1) (nI t.2.1) t.2.2.1 (nI dp) (nI 0) fp) (tmJ J t.2.2.2) (EndT I J S (nI dp) fp (f t))
section Tw9
variable {w : Wd} {l : Launch} {S : Sh} {I : Mi} {J : Ml} {n dp d : Nat} {tx : Nat → Int32}
theorem kX3_sum (hS : twS S) (hz : I 473 46 = nI n) (hn : n ≤ 400) (htx : ct (I 507) n = tx) (hd : 3 ≤ d) {part : Tk → PR (Tk × Den)} (ho : okP n part) (hp : CtR w l yX3_part cX3_part 2 d S I J n dp part) : CtR w l yX3_sum cX3_sum 4 (d + 1) S I J n dp (pSum tx n part) := by
  intro t fp h1 h2
  have hot := ho t h1 h2
  refine Ct.of [some _, none, none, none] rfl (Nat.le_of_ble_eq_true rfl) (by decide) ?_
  intro κ hκ C
  subst hκ
  have hl : ∀ (f : Nat) (u : Tk) (g : Den), u.1 ≤ n → u.2.1 ≤ n → n < u.1 + f → pSum tx n part t = pSumL tx n part f u g → XX w κ (Zr w κ (EndT I J S (nI dp) fp (pSum tx n part t))) 0 0 5 [some (.ref 473), some (.int (g (sg I))), none, none] [] S (tmI I (nI u.1) (nI u.2.1) u.2.2.1 (nI dp) (nI 0) fp) (tmJ J u.2.2.2) := by
    intro f
    induction f with
    | zero => intro u g q1 q2 q3 q4; omega
    | succ f ih =>
      intro u g q1 q2 q3 q4
      rw [pSumL] at q4
      have hx := nx_le tx q1
      have hpo := ho (nx tx n u.1) hx.2.1 hx.2.2.1
      refine x_aloadr_n C dX3_sum_5 6 rfl rfl ?_
      refine x_geti C fl_X3_294 (Or.inl rfl) dX3_sum_6 9 rfl hS.1 (tr51 _ _ _ _ _ _ _) ?_
      refine x_ifneN C dX3_sum_9 12 63 rfl (by decide) (by omega) (fun h9 => absurd h9 (by omega)) (fun _ => ?_)
      refine x_aloadr_n C dX3_sum_12 13 rfl rfl ?_
      refine x_bip (j := 43) C dX3_sum_13 15 rfl (by decide) ?_
      refine x_callV C lk_X3_300 dX3_sum_15 18 rfl [_] [] rfl rfl hS.1 (Nat.le_of_ble_eq_true rfl) (by omega) (Nat.le_refl _) (Nat.le_refl _) (kX3_isSign hS) ?_
      rintro _ _ _ _ ⟨rfl, rfl, rfl, rfl⟩
      refine x_ifneZ C dX3_sum_18 21 30 rfl (by decide) (fun h18 => ?_) (fun h18 => ?_)
      · refine x_aloadr_n C dX3_sum_30 31 rfl rfl ?_
        refine x_bip (j := 43) C dX3_sum_31 33 rfl (by decide) ?_
        refine x_callV C lk_X3_300 dX3_sum_33 36 rfl [_] [] rfl rfl hS.1 (Nat.le_of_ble_eq_true rfl) (by omega) (Nat.le_refl _) (Nat.le_refl _) (kX3_isSign hS) ?_
        rintro _ _ _ _ ⟨rfl, rfl, rfl, rfl⟩
        refine x_istore_n C dX3_sum_36 37 rfl [_, _, _, _] (by decide) rfl rfl ?_
        refine x_aloadr_n C dX3_sum_37 38 rfl rfl ?_
        refine x_callV C lk_X3_309 dX3_sum_38 41 rfl [] [] rfl rfl hS.1 (Nat.le_of_ble_eq_true rfl) (by omega) (Nat.le_refl _) (Nat.le_refl _) (kX3_nextc hS hz hn htx q1) ?_
        rintro _ _ _ _ ⟨rfl, rfl, rfl, rfl⟩
        refine x_aloadr_n C dX3_sum_41 42 rfl rfl ?_
        refine x_callV C lk_X3_342 dX3_sum_42 45 rfl [] [] rfl rfl hS.1 (Nat.le_of_ble_eq_true rfl) (by omega) (Nat.le_refl _) (Nat.le_refl _) (hp (nx tx n u.1) fp hx.2.1 hx.2.2.1) ?_
        rintro _ _ _ _ ⟨rfl, v, rfl, ⟨u2, g2, e1, rfl, rfl, rfl⟩ | ⟨e, a1, p1, d1, u1, e1, rfl, rfl⟩⟩
        · have hu := hpo.1.1 _ _ e1
          have hk := hpo.2 _ e1
          have hk2 := hx.2.2.2.resolve_left hk
          refine x_istore_n C dX3_sum_45 46 rfl [_, _, _, _] (by decide) rfl rfl ?_
          refine x_iload_n C dX3_sum_46 47 rfl rfl ?_
          refine x_ifeqZ C dX3_sum_47 50 56 rfl (by decide) (fun h47 => ?_) (fun h47 => ?_)
          · refine x_iload_n C dX3_sum_56 57 rfl rfl ?_
            refine x_iload_n C dX3_sum_57 58 rfl rfl ?_
            refine x_isub C dX3_sum_58 59 rfl rfl ?_
            refine x_istore_n C dX3_sum_59 60 rfl [_, _, _, _] (by decide) rfl rfl ?_
            refine x_goto C dX3_sum_60 5 (by decide) ?_
            refine x_ls [some _, some _, none, none] ⟨rfl, rfl, trivial⟩ ?_
            first
              | exact absurd (h18.symm.trans h47) (by decide)
              | exact ih u2 (fun σ => g σ + g2 σ) hu.2.1 hu.2.2 (by omega) (by rw [q4]; simp [h18, e1, h47])
              | exact ih u2 (fun σ => g σ - g2 σ) hu.2.1 hu.2.2 (by omega) (by rw [q4]; simp_all)
          · refine x_iload_n C dX3_sum_50 51 rfl rfl ?_
            refine x_iload_n C dX3_sum_51 52 rfl rfl ?_
            refine x_iadd C dX3_sum_52 53 rfl rfl ?_
            refine x_goto C dX3_sum_53 59 (by decide) ?_
            refine x_istore_n C dX3_sum_59 60 rfl [_, _, _, _] (by decide) rfl rfl ?_
            refine x_goto C dX3_sum_60 5 (by decide) ?_
            refine x_ls [some _, some _, none, none] ⟨rfl, rfl, trivial⟩ ?_
            first
              | exact absurd (h18.symm.trans h47) (by decide)
              | exact ih u2 (fun σ => g σ + g2 σ) hu.2.1 hu.2.2 (by omega) (by rw [q4]; simp [h18, e1, h47])
              | exact ih u2 (fun σ => g σ - g2 σ) hu.2.1 hu.2.2 (by omega) (by rw [q4]; simp_all)
        · have hu := hpo.1.2 _ e1
          refine x_istore_n C dX3_sum_45 46 rfl [_, _, _, _] (by decide) rfl rfl ?_
          refine x_iload_n C dX3_sum_46 47 rfl rfl ?_
          refine x_ifeqZ C dX3_sum_47 50 56 rfl (by decide) (fun h47 => ?_) (fun h47 => ?_)
          · refine x_iload_n C dX3_sum_56 57 rfl rfl ?_
            refine x_iload_n C dX3_sum_57 58 rfl rfl ?_
            refine x_isub C dX3_sum_58 59 rfl rfl ?_
            refine x_istore_n C dX3_sum_59 60 rfl [_, _, _, _] (by decide) rfl rfl ?_
            refine x_goto C dX3_sum_60 5 (by decide) ?_
            refine x_aloadr_n C dX3_sum_5 6 rfl rfl ?_
            refine x_geti C fl_X3_294 (Or.inl rfl) dX3_sum_6 9 rfl hS.1 (tr51 _ _ _ _ _ _ _) ?_
            refine x_ifneN C dX3_sum_9 12 63 rfl (by decide) (by omega) (fun _ => ?_) (fun h9 => absurd h9 (by omega))
            refine x_iload_n C dX3_sum_63 64 rfl rfl ?_
            exact x_iret C dX3_sum_64 (Nat.le_refl _) (Nat.le_refl _) (EndT.er' (by rw [q4]; simp [e1, h18, h18, h47]))
          · refine x_iload_n C dX3_sum_50 51 rfl rfl ?_
            refine x_iload_n C dX3_sum_51 52 rfl rfl ?_
            refine x_iadd C dX3_sum_52 53 rfl rfl ?_
            refine x_goto C dX3_sum_53 59 (by decide) ?_
            refine x_istore_n C dX3_sum_59 60 rfl [_, _, _, _] (by decide) rfl rfl ?_
            refine x_goto C dX3_sum_60 5 (by decide) ?_
            refine x_aloadr_n C dX3_sum_5 6 rfl rfl ?_
            refine x_geti C fl_X3_294 (Or.inl rfl) dX3_sum_6 9 rfl hS.1 (tr51 _ _ _ _ _ _ _) ?_
            refine x_ifneN C dX3_sum_9 12 63 rfl (by decide) (by omega) (fun _ => ?_) (fun h9 => absurd h9 (by omega))
            refine x_iload_n C dX3_sum_63 64 rfl rfl ?_
            exact x_iret C dX3_sum_64 (Nat.le_refl _) (Nat.le_refl _) (EndT.er' (by rw [q4]; simp [e1, h18, h18, h47]))
      · refine x_aloadr_n C dX3_sum_21 22 rfl rfl ?_
        refine x_bip (j := 45) C dX3_sum_22 24 rfl (by decide) ?_
        refine x_callV C lk_X3_300 dX3_sum_24 27 rfl [_] [] rfl rfl hS.1 (Nat.le_of_ble_eq_true rfl) (by omega) (Nat.le_refl _) (Nat.le_refl _) (kX3_isSign hS) ?_
        rintro _ _ _ _ ⟨rfl, rfl, rfl, rfl⟩
        refine x_ifeqZ C dX3_sum_27 30 63 rfl (by decide) (fun h27 => ?_) (fun h27 => ?_)
        · refine x_iload_n C dX3_sum_63 64 rfl rfl ?_
          exact x_iret C dX3_sum_64 (Nat.le_refl _) (Nat.le_refl _) (EndT.ok (by rw [q4]; simp [h18, h27]) rfl)
        · refine x_aloadr_n C dX3_sum_30 31 rfl rfl ?_
          refine x_bip (j := 43) C dX3_sum_31 33 rfl (by decide) ?_
          refine x_callV C lk_X3_300 dX3_sum_33 36 rfl [_] [] rfl rfl hS.1 (Nat.le_of_ble_eq_true rfl) (by omega) (Nat.le_refl _) (Nat.le_refl _) (kX3_isSign hS) ?_
          rintro _ _ _ _ ⟨rfl, rfl, rfl, rfl⟩
          refine x_istore_n C dX3_sum_36 37 rfl [_, _, _, _] (by decide) rfl rfl ?_
          refine x_aloadr_n C dX3_sum_37 38 rfl rfl ?_
          refine x_callV C lk_X3_309 dX3_sum_38 41 rfl [] [] rfl rfl hS.1 (Nat.le_of_ble_eq_true rfl) (by omega) (Nat.le_refl _) (Nat.le_refl _) (kX3_nextc hS hz hn htx q1) ?_
          rintro _ _ _ _ ⟨rfl, rfl, rfl, rfl⟩
          refine x_aloadr_n C dX3_sum_41 42 rfl rfl ?_
          refine x_callV C lk_X3_342 dX3_sum_42 45 rfl [] [] rfl rfl hS.1 (Nat.le_of_ble_eq_true rfl) (by omega) (Nat.le_refl _) (Nat.le_refl _) (hp (nx tx n u.1) fp hx.2.1 hx.2.2.1) ?_
          rintro _ _ _ _ ⟨rfl, v, rfl, ⟨u2, g2, e1, rfl, rfl, rfl⟩ | ⟨e, a1, p1, d1, u1, e1, rfl, rfl⟩⟩
          · have hu := hpo.1.1 _ _ e1
            have hk := hpo.2 _ e1
            have hk2 := hx.2.2.2.resolve_left hk
            refine x_istore_n C dX3_sum_45 46 rfl [_, _, _, _] (by decide) rfl rfl ?_
            refine x_iload_n C dX3_sum_46 47 rfl rfl ?_
            refine x_ifeqZ C dX3_sum_47 50 56 rfl (by decide) (fun h47 => ?_) (fun h47 => ?_)
            · refine x_iload_n C dX3_sum_56 57 rfl rfl ?_
              refine x_iload_n C dX3_sum_57 58 rfl rfl ?_
              refine x_isub C dX3_sum_58 59 rfl rfl ?_
              refine x_istore_n C dX3_sum_59 60 rfl [_, _, _, _] (by decide) rfl rfl ?_
              refine x_goto C dX3_sum_60 5 (by decide) ?_
              refine x_ls [some _, some _, none, none] ⟨rfl, rfl, trivial⟩ ?_
              first
                | exact absurd (h18.symm.trans h47) (by decide)
                | exact ih u2 (fun σ => g σ + g2 σ) hu.2.1 hu.2.2 (by omega) (by rw [q4]; simp [h18, e1, h47])
                | exact ih u2 (fun σ => g σ - g2 σ) hu.2.1 hu.2.2 (by omega) (by rw [q4]; simp_all)
            · refine x_iload_n C dX3_sum_50 51 rfl rfl ?_
              refine x_iload_n C dX3_sum_51 52 rfl rfl ?_
              refine x_iadd C dX3_sum_52 53 rfl rfl ?_
              refine x_goto C dX3_sum_53 59 (by decide) ?_
              refine x_istore_n C dX3_sum_59 60 rfl [_, _, _, _] (by decide) rfl rfl ?_
              refine x_goto C dX3_sum_60 5 (by decide) ?_
              refine x_ls [some _, some _, none, none] ⟨rfl, rfl, trivial⟩ ?_
              first
                | exact absurd (h18.symm.trans h47) (by decide)
                | exact ih u2 (fun σ => g σ + g2 σ) hu.2.1 hu.2.2 (by omega) (by rw [q4]; simp [h18, e1, h47])
                | exact ih u2 (fun σ => g σ - g2 σ) hu.2.1 hu.2.2 (by omega) (by rw [q4]; simp_all)
          · have hu := hpo.1.2 _ e1
            refine x_istore_n C dX3_sum_45 46 rfl [_, _, _, _] (by decide) rfl rfl ?_
            refine x_iload_n C dX3_sum_46 47 rfl rfl ?_
            refine x_ifeqZ C dX3_sum_47 50 56 rfl (by decide) (fun h47 => ?_) (fun h47 => ?_)
            · refine x_iload_n C dX3_sum_56 57 rfl rfl ?_
              refine x_iload_n C dX3_sum_57 58 rfl rfl ?_
              refine x_isub C dX3_sum_58 59 rfl rfl ?_
              refine x_istore_n C dX3_sum_59 60 rfl [_, _, _, _] (by decide) rfl rfl ?_
              refine x_goto C dX3_sum_60 5 (by decide) ?_
              refine x_aloadr_n C dX3_sum_5 6 rfl rfl ?_
              refine x_geti C fl_X3_294 (Or.inl rfl) dX3_sum_6 9 rfl hS.1 (tr51 _ _ _ _ _ _ _) ?_
              refine x_ifneN C dX3_sum_9 12 63 rfl (by decide) (by omega) (fun _ => ?_) (fun h9 => absurd h9 (by omega))
              refine x_iload_n C dX3_sum_63 64 rfl rfl ?_
              exact x_iret C dX3_sum_64 (Nat.le_refl _) (Nat.le_refl _) (EndT.er' (by rw [q4]; simp [e1, h18, h18, h27, h47]))
            · refine x_iload_n C dX3_sum_50 51 rfl rfl ?_
              refine x_iload_n C dX3_sum_51 52 rfl rfl ?_
              refine x_iadd C dX3_sum_52 53 rfl rfl ?_
              refine x_goto C dX3_sum_53 59 (by decide) ?_
              refine x_istore_n C dX3_sum_59 60 rfl [_, _, _, _] (by decide) rfl rfl ?_
              refine x_goto C dX3_sum_60 5 (by decide) ?_
              refine x_aloadr_n C dX3_sum_5 6 rfl rfl ?_
              refine x_geti C fl_X3_294 (Or.inl rfl) dX3_sum_6 9 rfl hS.1 (tr51 _ _ _ _ _ _ _) ?_
              refine x_ifneN C dX3_sum_9 12 63 rfl (by decide) (by omega) (fun _ => ?_) (fun h9 => absurd h9 (by omega))
              refine x_iload_n C dX3_sum_63 64 rfl rfl ?_
              exact x_iret C dX3_sum_64 (Nat.le_refl _) (Nat.le_refl _) (EndT.er' (by rw [q4]; simp [e1, h18, h18, h27, h47]))
  refine x_aloadr_n C dX3_sum_0 1 rfl rfl ?_
  refine x_callV C lk_X3_342 dX3_sum_1 4 rfl [] [] rfl rfl hS.1 (Nat.le_of_ble_eq_true rfl) (by omega) (Nat.le_refl _) (Nat.le_refl _) (hp t fp h1 h2) ?_
  rintro _ _ _ _ ⟨rfl, v, rfl, ⟨u, g, e1, rfl, rfl, rfl⟩ | ⟨e, a1, p1, d1, u1, e1, rfl, rfl⟩⟩
  · have hu := hot.1.1 _ _ e1
    refine x_istore_n C dX3_sum_4 5 rfl [_, _, _, _] (by decide) rfl rfl ?_
    exact hl (n + 1) u g hu.2.1 hu.2.2 (by omega) (by rw [pSum, e1])
  · have hu := hot.1.2 _ e1
    refine x_istore_n C dX3_sum_4 5 rfl [_, _, _, _] (by decide) rfl rfl ?_
    refine x_aloadr_n C dX3_sum_5 6 rfl rfl ?_
    refine x_geti C fl_X3_294 (Or.inl rfl) dX3_sum_6 9 rfl hS.1 (tr51 _ _ _ _ _ _ _) ?_
    refine x_ifneN C dX3_sum_9 12 63 rfl (by decide) (by omega) (fun _ => ?_) (fun h9 => absurd h9 (by omega))
    refine x_iload_n C dX3_sum_63 64 rfl rfl ?_
    exact x_iret C dX3_sum_64 (Nat.le_refl _) (Nat.le_refl _) (EndT.er' (by rw [pSum, e1]))
theorem kX3_test (hS : twS S) (hz : I 473 46 = nI n) (hn : n ≤ 400) (htx : ct (I 507) n = tx) (hd : 3 ≤ d) {part : Tk → PR (Tk × Den)} (ho : okP n part) (hp : CtR w l yX3_sum cX3_sum 4 d S I J n dp (pSum tx n part)) : CtR w l yX3_test cX3_test 4 (d + 1) S I J n dp (pTest tx n part) := by
  intro t fp h1 h2
  have hot := pSum_ok (tx := tx) ho t h1 h2
  refine Ct.of [some _, none, none, none] rfl (Nat.le_of_ble_eq_true rfl) (by decide) ?_
  intro κ hκ C
  subst hκ
  refine x_aloadr_n C dX3_test_0 1 rfl rfl ?_
  refine x_callV C lk_X3_345 dX3_test_1 4 rfl [] [] rfl rfl hS.1 (Nat.le_of_ble_eq_true rfl) (by omega) (Nat.le_refl _) (Nat.le_refl _) (hp t fp h1 h2) ?_
  rintro _ _ _ _ ⟨rfl, v, rfl, ⟨u, g, e1, rfl, rfl, rfl⟩ | ⟨e, a1, p1, d1, u1, e1, rfl, rfl⟩⟩
  · have hu := hot.1.1 _ _ e1
    have hx := nx_le tx hu.2.1
    refine x_istore_n C dX3_test_4 5 rfl [_, _, _, _] (by decide) rfl rfl ?_
    refine x_aloadr_n C dX3_test_5 6 rfl rfl ?_
    refine x_geti C fl_X3_294 (Or.inl rfl) dX3_test_6 9 rfl hS.1 (tr51 _ _ _ _ _ _ _) ?_
    refine x_ifgtN C dX3_test_9 12 30 rfl (by decide) (by omega) (fun h9 => absurd h9 (by omega)) (fun _ => ?_)
    refine x_aloadr_n C dX3_test_12 13 rfl rfl ?_
    refine x_bip (j := 60) C dX3_test_13 15 rfl (by decide) ?_
    refine x_callV C lk_X3_300 dX3_test_15 18 rfl [_] [] rfl rfl hS.1 (Nat.le_of_ble_eq_true rfl) (by omega) (Nat.le_refl _) (Nat.le_refl _) (kX3_isSign hS) ?_
    rintro _ _ _ _ ⟨rfl, rfl, rfl, rfl⟩
    refine x_ifneZ C dX3_test_18 21 32 rfl (by decide) (fun h18 => ?_) (fun h18 => ?_)
    · refine x_aloadr_n C dX3_test_32 33 rfl rfl ?_
      refine x_bip (j := 60) C dX3_test_33 35 rfl (by decide) ?_
      refine x_callV C lk_X3_300 dX3_test_35 38 rfl [_] [] rfl rfl hS.1 (Nat.le_of_ble_eq_true rfl) (by omega) (Nat.le_refl _) (Nat.le_refl _) (kX3_isSign hS) ?_
      rintro _ _ _ _ ⟨rfl, rfl, rfl, rfl⟩
      refine x_istore_n C dX3_test_38 39 rfl [_, _, _, _] (by decide) rfl rfl ?_
      refine x_aloadr_n C dX3_test_39 40 rfl rfl ?_
      refine x_callV C lk_X3_309 dX3_test_40 43 rfl [] [] rfl rfl hS.1 (Nat.le_of_ble_eq_true rfl) (by omega) (Nat.le_refl _) (Nat.le_refl _) (kX3_nextc hS hz hn htx hu.2.1) ?_
      rintro _ _ _ _ ⟨rfl, rfl, rfl, rfl⟩
      refine x_aloadr_n C dX3_test_43 44 rfl rfl ?_
      refine x_callV C lk_X3_345 dX3_test_44 47 rfl [] [] rfl rfl hS.1 (Nat.le_of_ble_eq_true rfl) (by omega) (Nat.le_refl _) (Nat.le_refl _) (hp (nx tx n u.1) fp hx.2.1 hx.2.2.1) ?_
      rintro _ _ _ _ ⟨rfl, v, rfl, ⟨u2, g2, e2, rfl, rfl, rfl⟩ | ⟨e, a1, p1, d1, u1, e2, rfl, rfl⟩⟩
      · refine x_istore_n C dX3_test_47 48 rfl [_, _, _, _] (by decide) rfl rfl ?_
        refine x_iload_n C dX3_test_48 49 rfl rfl ?_
        refine x_ifeqZ C dX3_test_49 52 60 rfl (by decide) (fun h49 => ?_) (fun h49 => ?_)
        · refine x_iload_n C dX3_test_60 61 rfl rfl ?_
          refine x_iload_n C dX3_test_61 62 rfl rfl ?_
          refine x_icmpne C dX3_test_62 65 69 rfl (by decide) (fun h62 => ?_) (fun h62 => ?_)
          · refine x_ic (j := 0) C dX3_test_69 70 rfl ?_
            exact x_iret C dX3_test_70 (Nat.le_refl _) (Nat.le_refl _) (EndT.ok (g := if tG u 60 then fun σ => if g σ < g2 σ then nI 1 else nI 0 else fun σ => if g σ = g2 σ then nI 1 else nI 0) (by rw [pTest, e1]; simp [h18, e2, h18, h49, h62]) (by rw [show tG u 60 = _ from h49]; first | exact (if_pos h54).symm | exact (if_neg h54).symm | exact (if_pos h62).symm | exact (if_neg h62).symm))
          · refine x_ic (j := 1) C dX3_test_65 66 rfl ?_
            refine x_goto C dX3_test_66 70 (by decide) ?_
            exact x_iret C dX3_test_70 (Nat.le_refl _) (Nat.le_refl _) (EndT.ok (g := if tG u 60 then fun σ => if g σ < g2 σ then nI 1 else nI 0 else fun σ => if g σ = g2 σ then nI 1 else nI 0) (by rw [pTest, e1]; simp [h18, e2, h18, h49, h62]) (by rw [show tG u 60 = _ from h49]; first | exact (if_pos h54).symm | exact (if_neg h54).symm | exact (if_pos h62).symm | exact (if_neg h62).symm))
        · refine x_iload_n C dX3_test_52 53 rfl rfl ?_
          refine x_iload_n C dX3_test_53 54 rfl rfl ?_
          refine x_icmpge C dX3_test_54 57 69 rfl (by decide) (fun h54 => ?_) (fun h54 => ?_)
          · refine x_ic (j := 0) C dX3_test_69 70 rfl ?_
            exact x_iret C dX3_test_70 (Nat.le_refl _) (Nat.le_refl _) (EndT.ok (g := if tG u 60 then fun σ => if g σ < g2 σ then nI 1 else nI 0 else fun σ => if g σ = g2 σ then nI 1 else nI 0) (by rw [pTest, e1]; simp [h18, e2, h18, h49, h54]) (by rw [show tG u 60 = _ from h49]; first | exact (if_pos h54).symm | exact (if_neg h54).symm | exact (if_pos h62).symm | exact (if_neg h62).symm))
          · refine x_goto C dX3_test_57 65 (by decide) ?_
            refine x_ic (j := 1) C dX3_test_65 66 rfl ?_
            refine x_goto C dX3_test_66 70 (by decide) ?_
            exact x_iret C dX3_test_70 (Nat.le_refl _) (Nat.le_refl _) (EndT.ok (g := if tG u 60 then fun σ => if g σ < g2 σ then nI 1 else nI 0 else fun σ => if g σ = g2 σ then nI 1 else nI 0) (by rw [pTest, e1]; simp [h18, e2, h18, h49, h54]) (by rw [show tG u 60 = _ from h49]; first | exact (if_pos h54).symm | exact (if_neg h54).symm | exact (if_pos h62).symm | exact (if_neg h62).symm))
      · refine x_istore_n C dX3_test_47 48 rfl [_, _, _, _] (by decide) rfl rfl ?_
        refine x_iload_n C dX3_test_48 49 rfl rfl ?_
        refine x_ifeqZ C dX3_test_49 52 60 rfl (by decide) (fun h49 => ?_) (fun h49 => ?_)
        · refine x_iload_n C dX3_test_60 61 rfl rfl ?_
          refine x_iload_n C dX3_test_61 62 rfl rfl ?_
          refine x_icmpne C dX3_test_62 65 69 rfl (by decide) (fun h62 => ?_) (fun h62 => ?_)
          · refine x_ic (j := 0) C dX3_test_69 70 rfl ?_
            exact x_iret C dX3_test_70 (Nat.le_refl _) (Nat.le_refl _) (EndT.er' (by rw [pTest, e1]; simp [h18, e2, h18, h49, h62]))
          · refine x_ic (j := 1) C dX3_test_65 66 rfl ?_
            refine x_goto C dX3_test_66 70 (by decide) ?_
            exact x_iret C dX3_test_70 (Nat.le_refl _) (Nat.le_refl _) (EndT.er' (by rw [pTest, e1]; simp [h18, e2, h18, h49, h62]))
        · refine x_iload_n C dX3_test_52 53 rfl rfl ?_
          refine x_iload_n C dX3_test_53 54 rfl rfl ?_
          refine x_icmpge C dX3_test_54 57 69 rfl (by decide) (fun h54 => ?_) (fun h54 => ?_)
          · refine x_ic (j := 0) C dX3_test_69 70 rfl ?_
            exact x_iret C dX3_test_70 (Nat.le_refl _) (Nat.le_refl _) (EndT.er' (by rw [pTest, e1]; simp [h18, e2, h18, h49, h54]))
          · refine x_goto C dX3_test_57 65 (by decide) ?_
            refine x_ic (j := 1) C dX3_test_65 66 rfl ?_
            refine x_goto C dX3_test_66 70 (by decide) ?_
            exact x_iret C dX3_test_70 (Nat.le_refl _) (Nat.le_refl _) (EndT.er' (by rw [pTest, e1]; simp [h18, e2, h18, h49, h54]))
    · refine x_aloadr_n C dX3_test_21 22 rfl rfl ?_
      refine x_bip (j := 61) C dX3_test_22 24 rfl (by decide) ?_
      refine x_callV C lk_X3_300 dX3_test_24 27 rfl [_] [] rfl rfl hS.1 (Nat.le_of_ble_eq_true rfl) (by omega) (Nat.le_refl _) (Nat.le_refl _) (kX3_isSign hS) ?_
      rintro _ _ _ _ ⟨rfl, rfl, rfl, rfl⟩
      refine x_ifneZ C dX3_test_27 30 32 rfl (by decide) (fun h27 => ?_) (fun h27 => ?_)
      · refine x_aloadr_n C dX3_test_32 33 rfl rfl ?_
        refine x_bip (j := 60) C dX3_test_33 35 rfl (by decide) ?_
        refine x_callV C lk_X3_300 dX3_test_35 38 rfl [_] [] rfl rfl hS.1 (Nat.le_of_ble_eq_true rfl) (by omega) (Nat.le_refl _) (Nat.le_refl _) (kX3_isSign hS) ?_
        rintro _ _ _ _ ⟨rfl, rfl, rfl, rfl⟩
        refine x_istore_n C dX3_test_38 39 rfl [_, _, _, _] (by decide) rfl rfl ?_
        refine x_aloadr_n C dX3_test_39 40 rfl rfl ?_
        refine x_callV C lk_X3_309 dX3_test_40 43 rfl [] [] rfl rfl hS.1 (Nat.le_of_ble_eq_true rfl) (by omega) (Nat.le_refl _) (Nat.le_refl _) (kX3_nextc hS hz hn htx hu.2.1) ?_
        rintro _ _ _ _ ⟨rfl, rfl, rfl, rfl⟩
        refine x_aloadr_n C dX3_test_43 44 rfl rfl ?_
        refine x_callV C lk_X3_345 dX3_test_44 47 rfl [] [] rfl rfl hS.1 (Nat.le_of_ble_eq_true rfl) (by omega) (Nat.le_refl _) (Nat.le_refl _) (hp (nx tx n u.1) fp hx.2.1 hx.2.2.1) ?_
        rintro _ _ _ _ ⟨rfl, v, rfl, ⟨u2, g2, e2, rfl, rfl, rfl⟩ | ⟨e, a1, p1, d1, u1, e2, rfl, rfl⟩⟩
        · refine x_istore_n C dX3_test_47 48 rfl [_, _, _, _] (by decide) rfl rfl ?_
          refine x_iload_n C dX3_test_48 49 rfl rfl ?_
          refine x_ifeqZ C dX3_test_49 52 60 rfl (by decide) (fun h49 => ?_) (fun h49 => ?_)
          · refine x_iload_n C dX3_test_60 61 rfl rfl ?_
            refine x_iload_n C dX3_test_61 62 rfl rfl ?_
            refine x_icmpne C dX3_test_62 65 69 rfl (by decide) (fun h62 => ?_) (fun h62 => ?_)
            · refine x_ic (j := 0) C dX3_test_69 70 rfl ?_
              exact x_iret C dX3_test_70 (Nat.le_refl _) (Nat.le_refl _) (EndT.ok (g := if tG u 60 then fun σ => if g σ < g2 σ then nI 1 else nI 0 else fun σ => if g σ = g2 σ then nI 1 else nI 0) (by rw [pTest, e1]; simp [h18, e2, h18, h27, h49, h62]) (by rw [show tG u 60 = _ from h49]; first | exact (if_pos h54).symm | exact (if_neg h54).symm | exact (if_pos h62).symm | exact (if_neg h62).symm))
            · refine x_ic (j := 1) C dX3_test_65 66 rfl ?_
              refine x_goto C dX3_test_66 70 (by decide) ?_
              exact x_iret C dX3_test_70 (Nat.le_refl _) (Nat.le_refl _) (EndT.ok (g := if tG u 60 then fun σ => if g σ < g2 σ then nI 1 else nI 0 else fun σ => if g σ = g2 σ then nI 1 else nI 0) (by rw [pTest, e1]; simp [h18, e2, h18, h27, h49, h62]) (by rw [show tG u 60 = _ from h49]; first | exact (if_pos h54).symm | exact (if_neg h54).symm | exact (if_pos h62).symm | exact (if_neg h62).symm))
          · refine x_iload_n C dX3_test_52 53 rfl rfl ?_
            refine x_iload_n C dX3_test_53 54 rfl rfl ?_
            refine x_icmpge C dX3_test_54 57 69 rfl (by decide) (fun h54 => ?_) (fun h54 => ?_)
            · refine x_ic (j := 0) C dX3_test_69 70 rfl ?_
              exact x_iret C dX3_test_70 (Nat.le_refl _) (Nat.le_refl _) (EndT.ok (g := if tG u 60 then fun σ => if g σ < g2 σ then nI 1 else nI 0 else fun σ => if g σ = g2 σ then nI 1 else nI 0) (by rw [pTest, e1]; simp [h18, e2, h18, h27, h49, h54]) (by rw [show tG u 60 = _ from h49]; first | exact (if_pos h54).symm | exact (if_neg h54).symm | exact (if_pos h62).symm | exact (if_neg h62).symm))
            · refine x_goto C dX3_test_57 65 (by decide) ?_
              refine x_ic (j := 1) C dX3_test_65 66 rfl ?_
              refine x_goto C dX3_test_66 70 (by decide) ?_
              exact x_iret C dX3_test_70 (Nat.le_refl _) (Nat.le_refl _) (EndT.ok (g := if tG u 60 then fun σ => if g σ < g2 σ then nI 1 else nI 0 else fun σ => if g σ = g2 σ then nI 1 else nI 0) (by rw [pTest, e1]; simp [h18, e2, h18, h27, h49, h54]) (by rw [show tG u 60 = _ from h49]; first | exact (if_pos h54).symm | exact (if_neg h54).symm | exact (if_pos h62).symm | exact (if_neg h62).symm))
        · refine x_istore_n C dX3_test_47 48 rfl [_, _, _, _] (by decide) rfl rfl ?_
          refine x_iload_n C dX3_test_48 49 rfl rfl ?_
          refine x_ifeqZ C dX3_test_49 52 60 rfl (by decide) (fun h49 => ?_) (fun h49 => ?_)
          · refine x_iload_n C dX3_test_60 61 rfl rfl ?_
            refine x_iload_n C dX3_test_61 62 rfl rfl ?_
            refine x_icmpne C dX3_test_62 65 69 rfl (by decide) (fun h62 => ?_) (fun h62 => ?_)
            · refine x_ic (j := 0) C dX3_test_69 70 rfl ?_
              exact x_iret C dX3_test_70 (Nat.le_refl _) (Nat.le_refl _) (EndT.er' (by rw [pTest, e1]; simp [h18, e2, h18, h27, h49, h62]))
            · refine x_ic (j := 1) C dX3_test_65 66 rfl ?_
              refine x_goto C dX3_test_66 70 (by decide) ?_
              exact x_iret C dX3_test_70 (Nat.le_refl _) (Nat.le_refl _) (EndT.er' (by rw [pTest, e1]; simp [h18, e2, h18, h27, h49, h62]))
          · refine x_iload_n C dX3_test_52 53 rfl rfl ?_
            refine x_iload_n C dX3_test_53 54 rfl rfl ?_
            refine x_icmpge C dX3_test_54 57 69 rfl (by decide) (fun h54 => ?_) (fun h54 => ?_)
            · refine x_ic (j := 0) C dX3_test_69 70 rfl ?_
              exact x_iret C dX3_test_70 (Nat.le_refl _) (Nat.le_refl _) (EndT.er' (by rw [pTest, e1]; simp [h18, e2, h18, h27, h49, h54]))
            · refine x_goto C dX3_test_57 65 (by decide) ?_
              refine x_ic (j := 1) C dX3_test_65 66 rfl ?_
              refine x_goto C dX3_test_66 70 (by decide) ?_
              exact x_iret C dX3_test_70 (Nat.le_refl _) (Nat.le_refl _) (EndT.er' (by rw [pTest, e1]; simp [h18, e2, h18, h27, h49, h54]))
      · refine x_iload_n C dX3_test_30 31 rfl rfl ?_
        exact x_iret C dX3_test_31 (Nat.le_refl _) (Nat.le_refl _) (EndT.ok (by rw [pTest, e1]; simp [h18, h27]) rfl)
  · have hu := hot.1.2 _ e1
    refine x_istore_n C dX3_test_4 5 rfl [_, _, _, _] (by decide) rfl rfl ?_
    refine x_aloadr_n C dX3_test_5 6 rfl rfl ?_
    refine x_geti C fl_X3_294 (Or.inl rfl) dX3_test_6 9 rfl hS.1 (tr51 _ _ _ _ _ _ _) ?_
    refine x_ifgtN C dX3_test_9 12 30 rfl (by decide) (by omega) (fun _ => ?_) (fun h9 => absurd h9 (by omega))
    refine x_iload_n C dX3_test_30 31 rfl rfl ?_
    exact x_iret C dX3_test_31 (Nat.le_refl _) (Nat.le_refl _) (EndT.er' (by rw [pTest, e1]))
theorem kX3_whole (hS : twS S) (hz : I 473 46 = nI n) (hn : n ≤ 400) (htx : ct (I 507) n = tx) (hd : 3 ≤ d) {part : Tk → PR (Tk × Den)} (ho : okP n part) (hp : CtR w l yX3_test cX3_test 4 d S I J n dp (pTest tx n part)) : CtR w l yX3_whole cX3_whole 3 (d + 1) S I J n dp (pWh tx n part) := by
  intro t fp h1 h2
  have hot := pTest_ok (tx := tx) ho t h1 h2
  refine Ct.of [some _, none, none] rfl (Nat.le_of_ble_eq_true rfl) (by decide) ?_
  intro κ hκ C
  subst hκ
  have hl : ∀ (f : Nat) (u : Tk) (g : Den), u.1 ≤ n → u.2.1 ≤ n → n < u.1 + f → pWh tx n part t = pWhL tx n part f u g → XX w κ (Zr w κ (EndT I J S (nI dp) fp (pWh tx n part t))) 0 0 5 [some (.ref 473), some (.int (g (sg I))), none] [] S (tmI I (nI u.1) (nI u.2.1) u.2.2.1 (nI dp) (nI 0) fp) (tmJ J u.2.2.2) := by
    intro f
    induction f with
    | zero => intro u g q1 q2 q3 q4; omega
    | succ f ih =>
      intro u g q1 q2 q3 q4
      rw [pWhL] at q4
      have hx := nx_le tx q1
      have hpo := pTest_ok (tx := tx) ho (nx tx n u.1) hx.2.1 hx.2.2.1
      refine x_aloadr_n C dX3_whole_5 6 rfl rfl ?_
      refine x_geti C fl_X3_294 (Or.inl rfl) dX3_whole_6 9 rfl hS.1 (tr51 _ _ _ _ _ _ _) ?_
      refine x_ifneN C dX3_whole_9 12 48 rfl (by decide) (by omega) (fun h9 => absurd h9 (by omega)) (fun _ => ?_)
      refine x_aloadr_n C dX3_whole_12 13 rfl rfl ?_
      refine x_ldc2 C dX3_whole_13 16 rfl q1673 ?_
      refine x_callV C lk_X3_318 dX3_whole_16 19 rfl [_] [] rfl rfl hS.1 (Nat.le_of_ble_eq_true rfl) (by omega) (Nat.le_refl _) (Nat.le_refl _) (kX3_isWord hS) ?_
      rintro _ _ _ _ ⟨rfl, rfl, rfl, rfl⟩
      refine x_ifeqZ C dX3_whole_19 22 48 rfl (by decide) (fun h19 => ?_) (fun h19 => ?_)
      · refine x_iload_n C dX3_whole_48 49 rfl rfl ?_
        exact x_iret C dX3_whole_49 (Nat.le_refl _) (Nat.le_refl _) (EndT.ok (by rw [q4]; simp [h19]) rfl)
      · refine x_aloadr_n C dX3_whole_22 23 rfl rfl ?_
        refine x_callV C lk_X3_309 dX3_whole_23 26 rfl [] [] rfl rfl hS.1 (Nat.le_of_ble_eq_true rfl) (by omega) (Nat.le_refl _) (Nat.le_refl _) (kX3_nextc hS hz hn htx q1) ?_
        rintro _ _ _ _ ⟨rfl, rfl, rfl, rfl⟩
        refine x_aloadr_n C dX3_whole_26 27 rfl rfl ?_
        refine x_callV C lk_X3_348 dX3_whole_27 30 rfl [] [] rfl rfl hS.1 (Nat.le_of_ble_eq_true rfl) (by omega) (Nat.le_refl _) (Nat.le_refl _) (hp (nx tx n u.1) fp hx.2.1 hx.2.2.1) ?_
        rintro _ _ _ _ ⟨rfl, v, rfl, ⟨u2, g2, e1, rfl, rfl, rfl⟩ | ⟨e, a1, p1, d1, u1, e1, rfl, rfl⟩⟩
        · have hu := hpo.1.1 _ _ e1
          have hk := hpo.2 _ e1
          have hk2 := hx.2.2.2.resolve_left hk
          have ih2 := ih u2 (fun σ => if ¬ g σ = 0 ∧ ¬ g2 σ = 0 then nI 1 else nI 0) hu.2.1 hu.2.2 (by omega) (by rw [q4]; simp [h19, e1])
          refine x_istore_n C dX3_whole_30 31 rfl [_, _, _] (by decide) rfl rfl ?_
          refine x_iload_n C dX3_whole_31 32 rfl rfl ?_
          refine x_ifeq C dX3_whole_32 35 43 rfl (by decide) (fun h32 => ?_) (fun h32 => ?_)
          · refine x_ic (j := 0) C dX3_whole_43 44 rfl ?_
            refine x_istore_n C dX3_whole_44 45 rfl [_, _, _] (by decide) rfl rfl ?_
            refine x_goto C dX3_whole_45 5 (by decide) ?_
            refine x_ls [some _, some _, none] ⟨rfl, rfl, trivial⟩ ?_
            simp only [h19, h32] at ih2
            first | exact ih2 | simpa using ih2
          · refine x_iload_n C dX3_whole_35 36 rfl rfl ?_
            refine x_ifeq C dX3_whole_36 39 43 rfl (by decide) (fun h36 => ?_) (fun h36 => ?_)
            · refine x_ic (j := 0) C dX3_whole_43 44 rfl ?_
              refine x_istore_n C dX3_whole_44 45 rfl [_, _, _] (by decide) rfl rfl ?_
              refine x_goto C dX3_whole_45 5 (by decide) ?_
              refine x_ls [some _, some _, none] ⟨rfl, rfl, trivial⟩ ?_
              simp only [h19, h32, h36] at ih2
              first | exact ih2 | simpa using ih2
            · refine x_ic (j := 1) C dX3_whole_39 40 rfl ?_
              refine x_goto C dX3_whole_40 44 (by decide) ?_
              refine x_istore_n C dX3_whole_44 45 rfl [_, _, _] (by decide) rfl rfl ?_
              refine x_goto C dX3_whole_45 5 (by decide) ?_
              refine x_ls [some _, some _, none] ⟨rfl, rfl, trivial⟩ ?_
              simp only [h19, h32, h36] at ih2
              first | exact ih2 | simpa using ih2
        · have hu := hpo.1.2 _ e1
          refine x_istore_n C dX3_whole_30 31 rfl [_, _, _] (by decide) rfl rfl ?_
          refine x_iload_n C dX3_whole_31 32 rfl rfl ?_
          refine x_ifeq C dX3_whole_32 35 43 rfl (by decide) (fun h32 => ?_) (fun h32 => ?_)
          · refine x_ic (j := 0) C dX3_whole_43 44 rfl ?_
            refine x_istore_n C dX3_whole_44 45 rfl [_, _, _] (by decide) rfl rfl ?_
            refine x_goto C dX3_whole_45 5 (by decide) ?_
            refine x_aloadr_n C dX3_whole_5 6 rfl rfl ?_
            refine x_geti C fl_X3_294 (Or.inl rfl) dX3_whole_6 9 rfl hS.1 (tr51 _ _ _ _ _ _ _) ?_
            refine x_ifneN C dX3_whole_9 12 48 rfl (by decide) (by omega) (fun _ => ?_) (fun h9 => absurd h9 (by omega))
            refine x_iload_n C dX3_whole_48 49 rfl rfl ?_
            exact x_iret C dX3_whole_49 (Nat.le_refl _) (Nat.le_refl _) (EndT.er' (by rw [q4]; simp [e1, h19]))
          · refine x_iload_n C dX3_whole_35 36 rfl rfl ?_
            refine x_ifeq C dX3_whole_36 39 43 rfl (by decide) (fun h36 => ?_) (fun h36 => ?_)
            · refine x_ic (j := 0) C dX3_whole_43 44 rfl ?_
              refine x_istore_n C dX3_whole_44 45 rfl [_, _, _] (by decide) rfl rfl ?_
              refine x_goto C dX3_whole_45 5 (by decide) ?_
              refine x_aloadr_n C dX3_whole_5 6 rfl rfl ?_
              refine x_geti C fl_X3_294 (Or.inl rfl) dX3_whole_6 9 rfl hS.1 (tr51 _ _ _ _ _ _ _) ?_
              refine x_ifneN C dX3_whole_9 12 48 rfl (by decide) (by omega) (fun _ => ?_) (fun h9 => absurd h9 (by omega))
              refine x_iload_n C dX3_whole_48 49 rfl rfl ?_
              exact x_iret C dX3_whole_49 (Nat.le_refl _) (Nat.le_refl _) (EndT.er' (by rw [q4]; simp [e1, h19]))
            · refine x_ic (j := 1) C dX3_whole_39 40 rfl ?_
              refine x_goto C dX3_whole_40 44 (by decide) ?_
              refine x_istore_n C dX3_whole_44 45 rfl [_, _, _] (by decide) rfl rfl ?_
              refine x_goto C dX3_whole_45 5 (by decide) ?_
              refine x_aloadr_n C dX3_whole_5 6 rfl rfl ?_
              refine x_geti C fl_X3_294 (Or.inl rfl) dX3_whole_6 9 rfl hS.1 (tr51 _ _ _ _ _ _ _) ?_
              refine x_ifneN C dX3_whole_9 12 48 rfl (by decide) (by omega) (fun _ => ?_) (fun h9 => absurd h9 (by omega))
              refine x_iload_n C dX3_whole_48 49 rfl rfl ?_
              exact x_iret C dX3_whole_49 (Nat.le_refl _) (Nat.le_refl _) (EndT.er' (by rw [q4]; simp [e1, h19]))
  refine x_aloadr_n C dX3_whole_0 1 rfl rfl ?_
  refine x_callV C lk_X3_348 dX3_whole_1 4 rfl [] [] rfl rfl hS.1 (Nat.le_of_ble_eq_true rfl) (by omega) (Nat.le_refl _) (Nat.le_refl _) (hp t fp h1 h2) ?_
  rintro _ _ _ _ ⟨rfl, v, rfl, ⟨u, g, e1, rfl, rfl, rfl⟩ | ⟨e, a1, p1, d1, u1, e1, rfl, rfl⟩⟩
  · have hu := hot.1.1 _ _ e1
    refine x_istore_n C dX3_whole_4 5 rfl [_, _, _] (by decide) rfl rfl ?_
    exact hl (n + 1) u g hu.2.1 hu.2.2 (by omega) (by rw [pWh, e1])
  · have hu := hot.1.2 _ e1
    refine x_istore_n C dX3_whole_4 5 rfl [_, _, _] (by decide) rfl rfl ?_
    refine x_aloadr_n C dX3_whole_5 6 rfl rfl ?_
    refine x_geti C fl_X3_294 (Or.inl rfl) dX3_whole_6 9 rfl hS.1 (tr51 _ _ _ _ _ _ _) ?_
    refine x_ifneN C dX3_whole_9 12 48 rfl (by decide) (by omega) (fun _ => ?_) (fun h9 => absurd h9 (by omega))
    refine x_iload_n C dX3_whole_48 49 rfl rfl ?_
    exact x_iret C dX3_whole_49 (Nat.le_refl _) (Nat.le_refl _) (EndT.er' (by rw [pWh, e1]))
theorem kX3_level (hS : twS S) (hz : I 473 46 = nI n) (hn : n ≤ 400) (htx : ct (I 507) n = tx) : ∀ lev, lev ≤ 5 → CtR w l yX3_part cX3_part 2 (3 + 4 * lev) S I J n (5 - lev) (pPt tx n lev)
  | 0, hl => fun t fp h1 h2 => kX3_part hS hz hn htx (by omega) (by omega) (fun _ => rfl) (fun k hk => by omega) h1 h2
  | k + 1, hl => fun t fp h1 h2 => by
    have ih := kX3_level hS hz hn htx k (by omega)
    have hs := kX3_sum hS hz hn htx (by omega) (pPt_ok k) ih
    have ht := kX3_test hS hz hn htx (by omega) (pPt_ok k) hs
    have hw := kX3_whole hS hz hn htx (by omega) (pPt_ok k) ht
    refine kX3_part hS hz hn htx hl (by omega) (fun h => by omega) (fun k' hk' => ?_) h1 h2
    cases hk'
    exact ⟨_, rfl, fun t q1 q2 => (pWh_ok (pPt_ok k) t q1 q2).1, hw⟩
/-- a whole, from outside -/
abbrev pW (tx : Nat → Int32) (n : Nat) : Tk → PR (Tk × Den) := pWh tx n (pPt tx n 5)
theorem kX3_W (hS : twS S) (hz : I 473 46 = nI n) (hn : n ≤ 400) (htx : ct (I 507) n = tx) : CtR w l yX3_whole cX3_whole 3 26 S I J n 0 (pW tx n) := by
  have ih := kX3_level (w := w) (l := l) (J := J) hS hz hn htx 5 (by omega)
  have hs := kX3_sum hS hz hn htx (by omega) (pPt_ok 5) ih
  have ht := kX3_test hS hz hn htx (by omega) (pPt_ok 5) hs
  exact kX3_whole hS hz hn htx (by omega) (pPt_ok 5) ht
theorem pW_ok : okP n (pW tx n) := pWh_ok (pPt_ok 5)
end Tw9
/-! rules -/
def kdN (t : Tk) : Option Nat := if tW t 4514 then some 0 else if tW t 40187 then some 1 else if tW t 261071320 then some 2 else if tW t 131360 then some 3 else none
abbrev Rul : Type := Nat × Den × Option Den
def pRl (tx : Nat → Int32) (n : Nat) : Nat → Tk → List Rul → PR (List Rul)
  | 0, _, L => .ok L
  | f + 1, t, L => if t.2.2.1 = nI 0 then .ok L else match kdN t with
    | none => .error (1, t.2.1)
    | some k => if L.length = 12 then .error (2, t.2.1) else match pW tx n (nx tx n t.1) with
      | .error e => .error e
      | .ok (u, g) => if tW u 458690 then match pW tx n (nx tx n u.1) with
          | .error e => .error e
          | .ok (u2, h) => if tG u2 59 then pRl tx n f (nx tx n u2.1) (L ++ [(k, g, some h)]) else .error (1, u2.2.1)
        else if tG u 59 then pRl tx n f (nx tx n u.1) (L ++ [(k, g, none)]) else .error (1, u.2.1)
def pRules (tx : Nat → Int32) (n : Nat) : PR (List Rul) := pRl tx n (n + 1) (nx tx n 0) []
def clip (v : Int32) : Int32 := if v < 0 then nI 0 else if nI 100 < v then nI 100 else v
def ruOk (σ : Nat → Int32) (q : Rul) : Bool := match q.2.2 with
  | none => true
  | some h => !decide (h σ = 0)
def fndS (kd : Int32) (σ : Nat → Int32) (r : Int32) (q : Rul) : Int32 := if nI q.1 = kd ∧ ruOk σ q = true ∧ r = -1 then clip (q.2.1 σ) else r
def fnd (kd : Int32) (σ : Nat → Int32) (L : List Rul) : Int32 := L.foldl (fndS kd σ) (-1)
theorem fnd_app (kd : Int32) (σ : Nat → Int32) (L : List Rul) (q : Rul) : fnd kd σ (L ++ [q]) = fndS kd σ (fnd kd σ L) q := by
  unfold fnd
  rw [List.foldl_append]
  rfl
