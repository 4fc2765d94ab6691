/-! the twin: rules read and told -/
def kdI (k : Int32) (v : Int64) : Int32 := if isW k v 4514 then nI 0 else if isW k v 40187 then nI 1 else if isW k v 261071320 then nI 2 else if isW k v 131360 then nI 3 else -1
theorem nI_m1 {k : Nat} (h : k < 2 ^ 31) : ¬ nI k = -1 := by
  intro e
  have := congrArg Int32.toInt e
  rw [nI_toInt h] at this
  have e2 : (-1 : Int32).toInt = -1 := by decide +kernel
  omega
theorem kd_none {t : Tk} (h : kdI t.2.2.1 t.2.2.2 = -1) : kdN t = none := by
  unfold kdN
  unfold kdI at h
  repeat' split at h
  · exact absurd h (nI_m1 (by decide))
  · exact absurd h (nI_m1 (by decide))
  · exact absurd h (nI_m1 (by decide))
  · exact absurd h (nI_m1 (by decide))
  · simp_all
theorem kd_some {t : Tk} (h : ¬ kdI t.2.2.1 t.2.2.2 = -1) : ∃ k, k < 4 ∧ kdN t = some k ∧ kdI t.2.2.1 t.2.2.2 = nI k := by
  unfold kdN
  unfold kdI at h ⊢
  repeat' split at h
  · rename_i h1; exact ⟨0, by decide, by simp [h1], by simp [h1]⟩
  · rename_i h0 h1; exact ⟨1, by decide, by simp [h0, h1], by simp [h0, h1]⟩
  · rename_i h0 h2 h1; exact ⟨2, by decide, by simp [h0, h1, h2], by simp [h0, h1, h2]⟩
  · rename_i h0 h2 h3 h1; exact ⟨3, by decide, by simp [h0, h1, h2, h3], by simp [h0, h1, h2, h3]⟩
  · exact absurd rfl h
theorem kd_word {t : Tk} {k : Nat} (h : kdN t = some k) : t.2.2.1 = nI 1 := by
  unfold kdN at h
  repeat' split at h
  · rename_i h1; exact kind1 h1
  · rename_i h1; exact kind1 h1
  · rename_i h1; exact kind1 h1
  · rename_i h1; exact kind1 h1
  · cases h
def rB (I : Mi) (r f : Int32) : Mi := sto (sto I 473 58 r) 473 59 f
theorem rB_sg (I : Mi) (r f : Int32) : sg (rB I r f) = sg I := by funext k; unfold sg; split <;> rfl
theorem rB_507 (I : Mi) (r f : Int32) : rB I r f 507 = I 507 := rfl
theorem rB_46 (I : Mi) (r f : Int32) : rB I r f 473 46 = I 473 46 := rfl
theorem rB_58 (I : Mi) (r f x : Int32) : sto (rB I r f) 473 58 x = rB I x f := by
  funext b i; unfold rB; simp only [sto_at]; by_cases hb : b = 473 <;> by_cases hi : i = 58 <;> by_cases hj : i = 59 <;> simp_all
theorem rB_59 (I : Mi) (r f x : Int32) : sto (rB I r f) 473 59 x = rB I r x := by
  funext b i; unfold rB; simp only [sto_at]; by_cases hb : b = 473 <;> by_cases hi : i = 58 <;> by_cases hj : i = 59 <;> simp_all
theorem rB_self (I : Mi) : rB I (I 473 58) (I 473 59) = I := by
  funext b i; unfold rB; simp only [sto_at]; by_cases hb : b = 473 <;> by_cases hi : i = 58 <;> by_cases hj : i = 59 <;> simp_all
def EndG (I : Mi) (J : Ml) (S : Sh) (kd : Int32) (res : PR (List Rul)) : Option Value → Sh → Mi → Ml → Prop := fun r S' I' J' => r = none ∧ S = S' ∧ ∃ (a p k d : Int32) (u : Int64), J' = tmJ J u ∧
  ((∃ (L : List Rul) (fp : Int32), res = .ok L ∧ I' = tmI (rB I (nI L.length) (fnd kd (sg I) L)) a p k d (nI 0) fp) ∨ (∃ (e : Nat × Nat) (rd fd : Int32), res = .error e ∧ I' = tmI (rB I rd fd) a p k d (nI e.1) (nI e.2)))
theorem EndG.ok {I : Mi} {J : Ml} {S : Sh} {kd : Int32} {res : PR (List Rul)} {L : List Rul} (h : res = .ok L) {a p k d fp : Int32} {u : Int64} : EndG I J S kd res none S (tmI (rB I (nI L.length) (fnd kd (sg I) L)) a p k d (nI 0) fp) (tmJ J u) := ⟨rfl, rfl, a, p, k, d, u, rfl, Or.inl ⟨L, fp, h, rfl⟩⟩
theorem EndG.er {I : Mi} {J : Ml} {S : Sh} {kd : Int32} {res : PR (List Rul)} {k q : Nat} (h : res = .error (k, q)) {a p t d rd fd : Int32} {u : Int64} : EndG I J S kd res none S (tmI (rB I rd fd) a p t d (nI k) (nI q)) (tmJ J u) := ⟨rfl, rfl, a, p, t, d, u, rfl, Or.inr ⟨(k, q), rd, fd, h, rfl⟩⟩
theorem EndG.er' {I : Mi} {J : Ml} {S : Sh} {kd : Int32} {res : PR (List Rul)} {e : Nat × Nat} (h : res = .error e) {a p t d rd fd : Int32} {u : Int64} : EndG I J S kd res none S (tmI (rB I rd fd) a p t d (nI e.1) (nI e.2)) (tmJ J u) := ⟨rfl, rfl, a, p, t, d, u, rfl, Or.inr ⟨e, rd, fd, h, rfl⟩⟩
theorem clip_ge {v : Int32} (h : ¬ v < 0) (h2 : ¬ nI 100 < v) : clip v = v := by simp [clip, h, h2]
section Tw10
variable {w : Wd} {l : Launch} {S : Sh} {I : Mi} {J : Ml} {n : Nat} {aa pl tk dp fa fp : Int32} {v : Int64} {tx : Nat → Int32}
theorem kX3_kindHere (hS : twS S) : Ct w l yX3_kindHere cX3_kindHere 1 (some .int) 2 0 0 [.ref 473] S (tmI I aa pl tk dp fa fp) (tmJ J v) (Qe (some (.int (kdI tk v))) S (tmI I aa pl tk dp fa fp) (tmJ J v)) := by
  refine Ct.of [some _] rfl (Nat.le_of_ble_eq_true rfl) (by decide) ?_
  intro κ hκ C
  subst hκ
  refine x_aloadr_n C dX3_kindHere_0 1 rfl rfl ?_
  refine x_ldc2 C dX3_kindHere_1 4 rfl q1636 ?_
  refine x_callV C lk_X3_318 dX3_kindHere_4 7 rfl [_] [] rfl rfl hS.1 (Nat.le_of_ble_eq_true rfl) (by decide) (Nat.le_refl _) (Nat.le_refl _) (kX3_isWord hS) ?_
  rintro _ _ _ _ ⟨rfl, rfl, rfl, rfl⟩
  refine x_ifeqZ C dX3_kindHere_7 10 14 rfl (by decide) (fun h7 => ?_) (fun h7 => ?_)
  · refine x_aloadr_n C dX3_kindHere_14 15 rfl rfl ?_
    refine x_ldc2 C dX3_kindHere_15 18 rfl q1641 ?_
    refine x_callV C lk_X3_318 dX3_kindHere_18 21 rfl [_] [] rfl rfl hS.1 (Nat.le_of_ble_eq_true rfl) (by decide) (Nat.le_refl _) (Nat.le_refl _) (kX3_isWord hS) ?_
    rintro _ _ _ _ ⟨rfl, rfl, rfl, rfl⟩
    refine x_ifeqZ C dX3_kindHere_21 24 28 rfl (by decide) (fun h21 => ?_) (fun h21 => ?_)
    · refine x_aloadr_n C dX3_kindHere_28 29 rfl rfl ?_
      refine x_ldc2 C dX3_kindHere_29 32 rfl q1642 ?_
      refine x_callV C lk_X3_318 dX3_kindHere_32 35 rfl [_] [] rfl rfl hS.1 (Nat.le_of_ble_eq_true rfl) (by decide) (Nat.le_refl _) (Nat.le_refl _) (kX3_isWord hS) ?_
      rintro _ _ _ _ ⟨rfl, rfl, rfl, rfl⟩
      refine x_ifeqZ C dX3_kindHere_35 38 42 rfl (by decide) (fun h35 => ?_) (fun h35 => ?_)
      · refine x_aloadr_n C dX3_kindHere_42 43 rfl rfl ?_
        refine x_ldc2 C dX3_kindHere_43 46 rfl q1643 ?_
        refine x_callV C lk_X3_318 dX3_kindHere_46 49 rfl [_] [] rfl rfl hS.1 (Nat.le_of_ble_eq_true rfl) (by decide) (Nat.le_refl _) (Nat.le_refl _) (kX3_isWord hS) ?_
        rintro _ _ _ _ ⟨rfl, rfl, rfl, rfl⟩
        refine x_ifeqZ C dX3_kindHere_49 52 56 rfl (by decide) (fun h49 => ?_) (fun h49 => ?_)
        · refine x_icm C dX3_kindHere_56 57 rfl ?_
          exact x_iret C dX3_kindHere_57 (Nat.le_refl _) (Nat.le_refl _) (Qe_of (by simp [kdI, h7, h21, h35, h49]))
        · refine x_ic (j := 3) C dX3_kindHere_52 53 rfl ?_
          refine x_goto C dX3_kindHere_53 57 (by decide) ?_
          exact x_iret C dX3_kindHere_57 (Nat.le_refl _) (Nat.le_refl _) (Qe_of (by simp [kdI, h7, h21, h35, h49]))
      · refine x_ic (j := 2) C dX3_kindHere_38 39 rfl ?_
        refine x_goto C dX3_kindHere_39 57 (by decide) ?_
        exact x_iret C dX3_kindHere_57 (Nat.le_refl _) (Nat.le_refl _) (Qe_of (by simp [kdI, h7, h21, h35]))
    · refine x_ic (j := 1) C dX3_kindHere_24 25 rfl ?_
      refine x_goto C dX3_kindHere_25 57 (by decide) ?_
      exact x_iret C dX3_kindHere_57 (Nat.le_refl _) (Nat.le_refl _) (Qe_of (by simp [kdI, h7, h21]))
  · refine x_ic (j := 0) C dX3_kindHere_10 11 rfl ?_
    refine x_goto C dX3_kindHere_11 57 (by decide) ?_
    exact x_iret C dX3_kindHere_57 (Nat.le_refl _) (Nat.le_refl _) (Qe_of (by simp [kdI, h7]))
theorem kX3_goes (hS : twS S) (hz : I 473 46 = nI n) (hn : n ≤ 400) (htx : ct (I 507) n = tx) {kd : Int32} : Ct w l yX3_goes cX3_goes 5 none 27 0 0 [.ref 473, .int kd] S I J (EndG I J S kd (pRules tx n)) := by
  refine Ct.of [some _, some _, none, none, none] rfl (Nat.le_of_ble_eq_true rfl) (by decide) ?_
  intro κ hκ C
  subst hκ
  have hl : ∀ (f : Nat) (t : Tk) (L : List Rul) (fp : Int32), t.1 ≤ n → t.2.1 ≤ n → n < t.1 + f → pRules tx n = pRl tx n f t L → L.length ≤ 12 → XX w κ (Zr w κ (EndG I J S kd (pRules tx n))) 0 0 29 [some (.ref 473), some (.int kd), none, none, none] [] S (tmI (rB I (nI L.length) (fnd kd (sg I) L)) (nI t.1) (nI t.2.1) t.2.2.1 (nI 0) (nI 0) fp) (tmJ J t.2.2.2) := by
    intro f
    induction f with
    | zero => intro t L fp q1 q2 q3 q4 q5; omega
    | succ f ih =>
      intro t L fp q1 q2 q3 q4 q5
      rw [pRl] at q4
      have hx := nx_le tx q1
      have hpo := pW_ok (tx := tx) (n := n) (nx tx n t.1) hx.2.1 hx.2.2.1
      have hzB : rB I (nI L.length) (fnd kd (sg I) L) 473 46 = nI n := hz
      have htB : ct (rB I (nI L.length) (fnd kd (sg I) L) 507) n = tx := htx
      refine x_aloadr_n C dX3_goes_29 30 rfl rfl ?_
      refine x_geti C fl_X3_294 (Or.inl rfl) dX3_goes_30 33 rfl hS.1 (tr51 _ _ _ _ _ _ _) ?_
      refine x_ifneN C dX3_goes_33 36 198 rfl (by decide) (by omega) (fun h33 => absurd h33 (by omega)) (fun _ => ?_)
      refine x_aloadr_n C dX3_goes_36 37 rfl rfl ?_
      refine x_geti C fl_X3_262 (Or.inl rfl) dX3_goes_37 40 rfl hS.1 (tr49 _ _ _ _ _ _ _) ?_
      refine x_ifeq C dX3_goes_40 43 198 rfl (by decide) (fun h40 => ?_) (fun h40 => ?_)
      · exact x_vret C dX3_goes_198 (Nat.le_refl _) (Nat.le_refl _) (EndG.ok (by rw [q4, if_pos (show t.2.2.1 = nI 0 from h40)]))
      · refine x_aloadr_n C dX3_goes_43 44 rfl rfl ?_
        refine x_callV C lk_X3_367 dX3_goes_44 47 rfl [] [] rfl rfl hS.1 (Nat.le_of_ble_eq_true rfl) (by decide) (Nat.le_refl _) (Nat.le_refl _) (kX3_kindHere hS) ?_
        rintro _ _ _ _ ⟨rfl, rfl, rfl, rfl⟩
        refine x_istore_n C dX3_goes_47 48 rfl [_, _, _, _, _] (by decide) rfl rfl ?_
        refine x_iload_n C dX3_goes_48 49 rfl rfl ?_
        refine x_icm C dX3_goes_49 50 rfl ?_
        refine x_icmpeq C dX3_goes_50 53 62 rfl (by decide) (fun h50 => ?_) (fun h50 => ?_)
        · refine x_aloadr_n C dX3_goes_62 63 rfl rfl ?_
          refine x_iload_n C dX3_goes_63 64 rfl rfl ?_
          refine x_icm C dX3_goes_64 65 rfl ?_
          refine x_icmpne C dX3_goes_65 68 72 rfl (by decide) (fun h65 => absurd h65 (not_not_intro h50)) (fun _ => ?_)
          refine x_ic (j := 1) C dX3_goes_68 69 rfl ?_
          refine x_goto C dX3_goes_69 73 (by decide) ?_
          refine x_callV C lk_X3_306 dX3_goes_73 76 rfl [_] [] rfl rfl hS.1 (Nat.le_of_ble_eq_true rfl) (by decide) (Nat.le_refl _) (Nat.le_refl _) (kX3_wrong hS) ?_
          rintro _ _ _ _ ⟨rfl, rfl, rfl, rfl⟩
          exact x_vret C dX3_goes_76 (Nat.le_refl _) (Nat.le_refl _) (EndG.er (by rw [q4, if_neg (show ¬ t.2.2.1 = nI 0 from h40), kd_none h50]))
        · obtain ⟨k, hk4, hk, ek⟩ := kd_some h50
          refine x_aloadr_n C dX3_goes_53 54 rfl rfl ?_
          refine x_geti C fl_X3_361 (Or.inl rfl) dX3_goes_54 57 rfl hS.1 ((trs _ _ _ _ _ _ _ (by omega)).trans (show rB I (nI L.length) (fnd kd (sg I) L) 473 58 = nI L.length from rfl)) ?_
          refine x_bip (j := 12) C dX3_goes_57 59 rfl (by decide) ?_
          refine x_icmpneN C dX3_goes_59 62 77 rfl (by decide) (by omega) (by omega) (fun h59 => ?_) (fun h59 => ?_)
          · refine x_aloadr_n C dX3_goes_77 78 rfl rfl ?_
            refine x_callV C lk_X3_309 dX3_goes_78 81 rfl [] [] rfl rfl hS.1 (Nat.le_of_ble_eq_true rfl) (by decide) (Nat.le_refl _) (Nat.le_refl _) (kX3_nextc hS hzB hn htB q1) ?_
            rintro _ _ _ _ ⟨rfl, rfl, rfl, rfl⟩
            refine x_aloadr_n C dX3_goes_81 82 rfl rfl ?_
            refine x_callV C lk_X3_312 dX3_goes_82 85 rfl [] [] rfl rfl hS.1 (Nat.le_of_ble_eq_true rfl) (by decide) (Nat.le_refl _) (Nat.le_refl _) (kX3_W hS hzB hn htB (nx tx n t.1) fp hx.2.1 hx.2.2.1) ?_
            rintro _ _ _ _ ⟨rfl, v, rfl, ⟨u, g, e1, rfl, rfl, rfl⟩ | ⟨e, a1, p1, d1, u1, e1, rfl, rfl⟩⟩
            · rw [rB_sg]
              have hu := hpo.1.1 _ _ e1
              have hk2 := hx.2.2.2.resolve_left (hpo.2 _ e1)
              have hx2 := nx_le tx hu.2.1
              have hpo2 := pW_ok (tx := tx) (n := n) (nx tx n u.1) hx2.2.1 hx2.2.2.1
              refine x_istore_n C dX3_goes_85 86 rfl [_, _, _, _, _] (by decide) rfl rfl ?_
              refine x_ic (j := 1) C dX3_goes_86 87 rfl ?_
              refine x_istore C dX3_goes_87 89 rfl [_, _, _, _, _] (by decide) rfl rfl ?_
              refine x_aloadr_n C dX3_goes_89 90 rfl rfl ?_
              refine x_geti C fl_X3_294 (Or.inl rfl) dX3_goes_90 93 rfl hS.1 (tr51 _ _ _ _ _ _ _) ?_
              refine x_ifneN C dX3_goes_93 96 116 rfl (by decide) (by omega) (fun h93 => absurd h93 (by omega)) (fun _ => ?_)
              refine x_aloadr_n C dX3_goes_96 97 rfl rfl ?_
              refine x_ldc2 C dX3_goes_97 100 rfl q1674 ?_
              refine x_callV C lk_X3_318 dX3_goes_100 103 rfl [_] [] rfl rfl hS.1 (Nat.le_of_ble_eq_true rfl) (by decide) (Nat.le_refl _) (Nat.le_refl _) (kX3_isWord hS) ?_
              rintro _ _ _ _ ⟨rfl, rfl, rfl, rfl⟩
              refine x_ifeqZ C dX3_goes_103 106 116 rfl (by decide) (fun h103 => ?_) (fun h103 => ?_)
              · refine x_aloadr_n C dX3_goes_116 117 rfl rfl ?_
                refine x_geti C fl_X3_294 (Or.inl rfl) dX3_goes_117 120 rfl hS.1 (tr51 _ _ _ _ _ _ _) ?_
                refine x_ifleN C dX3_goes_120 123 124 rfl (by decide) (by omega) (fun _ => ?_) (fun h120 => absurd h120 (by omega))
                refine x_aloadr_n C dX3_goes_124 125 rfl rfl ?_
                refine x_bip (j := 59) C dX3_goes_125 127 rfl (by decide) ?_
                refine x_callV C lk_X3_300 dX3_goes_127 130 rfl [_] [] rfl rfl hS.1 (Nat.le_of_ble_eq_true rfl) (by decide) (Nat.le_refl _) (Nat.le_refl _) (kX3_isSign hS) ?_
                rintro _ _ _ _ ⟨rfl, rfl, rfl, rfl⟩
                refine x_ifneZ C dX3_goes_130 133 139 rfl (by decide) (fun h130 => ?_) (fun h130 => ?_)
                · refine x_aloadr_n C dX3_goes_139 140 rfl rfl ?_
                  refine x_callV C lk_X3_309 dX3_goes_140 143 rfl [] [] rfl rfl hS.1 (Nat.le_of_ble_eq_true rfl) (by decide) (Nat.le_refl _) (Nat.le_refl _) (kX3_nextc hS hzB hn htB hu.2.1) ?_
                  rintro _ _ _ _ ⟨rfl, rfl, rfl, rfl⟩
                  refine x_aloadr_n C dX3_goes_143 144 rfl rfl ?_
                  refine x_dup C dX3_goes_144 145 rfl rfl ?_
                  refine x_geti C fl_X3_361 (Or.inl rfl) dX3_goes_145 148 rfl hS.1 ((trs _ _ _ _ _ _ _ (by omega)).trans (show rB I (nI L.length) (fnd kd (sg I) L) 473 58 = nI L.length from rfl)) ?_
                  refine x_ic (j := 1) C dX3_goes_148 149 rfl ?_
                  refine x_iadd C dX3_goes_149 150 rfl (nI_add _ _) ?_
                  refine x_puti C fl_X3_361 (Or.inl rfl) (Or.inl rfl) dX3_goes_150 153 rfl hS.1 ?_
                  rw [tm_in _ _ _ _ _ _ _ _ (by omega), rB_58]
                  refine x_iload_n C dX3_goes_153 154 rfl rfl ?_
                  refine x_iload_n C dX3_goes_154 155 rfl rfl ?_
                  refine x_icmpne C dX3_goes_155 158 195 rfl (by decide) (fun h155 => ?_) (fun h155 => ?_)
                  · refine x_goto C dX3_goes_195 29 (by decide) ?_
                    refine x_ls [some _, some _, none, none, none] ⟨rfl, rfl, trivial⟩ ?_
                    have hx3 := nx_le tx hu.2.1
                    have ih2 := ih (nx tx n u.1) (L ++ [(k, g, none)]) fp hx3.2.1 hx3.2.2.1 (by omega) (by rw [q4, if_neg (show ¬ t.2.2.1 = nI 0 from h40), hk]; simp [h59, e1, h103, h130]) (by rw [List.length_append, List.length_singleton]; omega)
                    rw [List.length_append, List.length_singleton, fnd_app] at ih2
                    first
                      | (rw [fndS, if_neg (by rintro ⟨c1, c2, c3⟩; first | exact h155 (ek.trans c1) | exact h168 c3)] at ih2; exact ih2)
                      | (rw [fndS, if_pos ⟨ek.symm.trans h155, rfl, h168⟩] at ih2; simp only [clip, h40, h50, h59, h103, h130, h155] at ih2; simpa using ih2)
                  · refine x_iload C dX3_goes_158 160 rfl rfl ?_
                    refine x_ifeqN C dX3_goes_160 163 195 rfl (by decide) (by omega) (fun h160 => absurd h160 (by decide)) (fun _ => ?_)
                    refine x_aloadr_n C dX3_goes_163 164 rfl rfl ?_
                    refine x_geti C fl_X3_364 (Or.inl rfl) dX3_goes_164 167 rfl hS.1 ((trs _ _ _ _ _ _ _ (by omega)).trans (show rB I (nI (L.length + 1)) (fnd kd (sg I) L) 473 59 = fnd kd (sg I) L from rfl)) ?_
                    refine x_icm C dX3_goes_167 168 rfl ?_
                    refine x_icmpne C dX3_goes_168 171 195 rfl (by decide) (fun h168 => ?_) (fun h168 => ?_)
                    · refine x_goto C dX3_goes_195 29 (by decide) ?_
                      refine x_ls [some _, some _, none, none, none] ⟨rfl, rfl, trivial⟩ ?_
                      have hx3 := nx_le tx hu.2.1
                      have ih2 := ih (nx tx n u.1) (L ++ [(k, g, none)]) fp hx3.2.1 hx3.2.2.1 (by omega) (by rw [q4, if_neg (show ¬ t.2.2.1 = nI 0 from h40), hk]; simp [h59, e1, h103, h130]) (by rw [List.length_append, List.length_singleton]; omega)
                      rw [List.length_append, List.length_singleton, fnd_app] at ih2
                      first
                        | (rw [fndS, if_neg (by rintro ⟨c1, c2, c3⟩; first | exact h155 (ek.trans c1) | exact h168 c3)] at ih2; exact ih2)
                        | (rw [fndS, if_pos ⟨ek.symm.trans h155, rfl, h168⟩] at ih2; simp only [clip, h40, h50, h59, h103, h130, h155, h168] at ih2; simpa using ih2)
                    · refine x_aloadr_n C dX3_goes_171 172 rfl rfl ?_
                      refine x_iload_n C dX3_goes_172 173 rfl rfl ?_
                      refine x_ifge C dX3_goes_173 176 180 rfl (by decide) (fun h173 => ?_) (fun h173 => ?_)
                      · refine x_iload_n C dX3_goes_180 181 rfl rfl ?_
                        refine x_bip (j := 100) C dX3_goes_181 183 rfl (by decide) ?_
                        refine x_icmple C dX3_goes_183 186 191 rfl (by decide) (fun h183 => ?_) (fun h183 => ?_)
                        · refine x_iload_n C dX3_goes_191 192 rfl rfl ?_
                          refine x_puti C fl_X3_364 (Or.inl rfl) (Or.inl rfl) dX3_goes_192 195 rfl hS.1 ?_
                          rw [tm_in _ _ _ _ _ _ _ _ (by omega), rB_59]
                          refine x_goto C dX3_goes_195 29 (by decide) ?_
                          refine x_ls [some _, some _, none, none, none] ⟨rfl, rfl, trivial⟩ ?_
                          have hx3 := nx_le tx hu.2.1
                          have ih2 := ih (nx tx n u.1) (L ++ [(k, g, none)]) fp hx3.2.1 hx3.2.2.1 (by omega) (by rw [q4, if_neg (show ¬ t.2.2.1 = nI 0 from h40), hk]; simp [h59, e1, h103, h130]) (by rw [List.length_append, List.length_singleton]; omega)
                          rw [List.length_append, List.length_singleton, fnd_app] at ih2
                          first
                            | (rw [fndS, if_neg (by rintro ⟨c1, c2, c3⟩; first | exact h155 (ek.trans c1) | exact h168 c3)] at ih2; exact ih2)
                            | (rw [fndS, if_pos ⟨ek.symm.trans h155, rfl, h168⟩] at ih2; simp only [clip, h40, h50, h59, h103, h130, h155, h168, h173, h183] at ih2; simpa using ih2)
                        · refine x_bip (j := 100) C dX3_goes_186 188 rfl (by decide) ?_
                          refine x_goto C dX3_goes_188 192 (by decide) ?_
                          refine x_puti C fl_X3_364 (Or.inl rfl) (Or.inl rfl) dX3_goes_192 195 rfl hS.1 ?_
                          rw [tm_in _ _ _ _ _ _ _ _ (by omega), rB_59]
                          refine x_goto C dX3_goes_195 29 (by decide) ?_
                          refine x_ls [some _, some _, none, none, none] ⟨rfl, rfl, trivial⟩ ?_
                          have hx3 := nx_le tx hu.2.1
                          have ih2 := ih (nx tx n u.1) (L ++ [(k, g, none)]) fp hx3.2.1 hx3.2.2.1 (by omega) (by rw [q4, if_neg (show ¬ t.2.2.1 = nI 0 from h40), hk]; simp [h59, e1, h103, h130]) (by rw [List.length_append, List.length_singleton]; omega)
                          rw [List.length_append, List.length_singleton, fnd_app] at ih2
                          first
                            | (rw [fndS, if_neg (by rintro ⟨c1, c2, c3⟩; first | exact h155 (ek.trans c1) | exact h168 c3)] at ih2; exact ih2)
                            | (rw [fndS, if_pos ⟨ek.symm.trans h155, rfl, h168⟩] at ih2; simp only [clip, h40, h50, h59, h103, h130, h155, h168, h173, h183] at ih2; simpa using ih2)
                      · refine x_ic (j := 0) C dX3_goes_176 177 rfl ?_
                        refine x_goto C dX3_goes_177 192 (by decide) ?_
                        refine x_puti C fl_X3_364 (Or.inl rfl) (Or.inl rfl) dX3_goes_192 195 rfl hS.1 ?_
                        rw [tm_in _ _ _ _ _ _ _ _ (by omega), rB_59]
                        refine x_goto C dX3_goes_195 29 (by decide) ?_
                        refine x_ls [some _, some _, none, none, none] ⟨rfl, rfl, trivial⟩ ?_
                        have hx3 := nx_le tx hu.2.1
                        have ih2 := ih (nx tx n u.1) (L ++ [(k, g, none)]) fp hx3.2.1 hx3.2.2.1 (by omega) (by rw [q4, if_neg (show ¬ t.2.2.1 = nI 0 from h40), hk]; simp [h59, e1, h103, h130]) (by rw [List.length_append, List.length_singleton]; omega)
                        rw [List.length_append, List.length_singleton, fnd_app] at ih2
                        first
                          | (rw [fndS, if_neg (by rintro ⟨c1, c2, c3⟩; first | exact h155 (ek.trans c1) | exact h168 c3)] at ih2; exact ih2)
                          | (rw [fndS, if_pos ⟨ek.symm.trans h155, rfl, h168⟩] at ih2; simp only [clip, h40, h50, h59, h103, h130, h155, h168, h173] at ih2; simpa using ih2)
                · refine x_aloadr_n C dX3_goes_133 134 rfl rfl ?_
                  refine x_ic (j := 1) C dX3_goes_134 135 rfl ?_
                  refine x_callV C lk_X3_306 dX3_goes_135 138 rfl [_] [] rfl rfl hS.1 (Nat.le_of_ble_eq_true rfl) (by decide) (Nat.le_refl _) (Nat.le_refl _) (kX3_wrong hS) ?_
                  rintro _ _ _ _ ⟨rfl, rfl, rfl, rfl⟩
                  exact x_vret C dX3_goes_138 (Nat.le_refl _) (Nat.le_refl _) (EndG.er (by rw [q4, if_neg (show ¬ t.2.2.1 = nI 0 from h40), hk]; simp [h59, e1, h103, h130]))
              · refine x_aloadr_n C dX3_goes_106 107 rfl rfl ?_
                refine x_callV C lk_X3_309 dX3_goes_107 110 rfl [] [] rfl rfl hS.1 (Nat.le_of_ble_eq_true rfl) (by decide) (Nat.le_refl _) (Nat.le_refl _) (kX3_nextc hS hzB hn htB hu.2.1) ?_
                rintro _ _ _ _ ⟨rfl, rfl, rfl, rfl⟩
                refine x_aloadr_n C dX3_goes_110 111 rfl rfl ?_
                refine x_callV C lk_X3_312 dX3_goes_111 114 rfl [] [] rfl rfl hS.1 (Nat.le_of_ble_eq_true rfl) (by decide) (Nat.le_refl _) (Nat.le_refl _) (kX3_W hS hzB hn htB (nx tx n u.1) fp hx2.2.1 hx2.2.2.1) ?_
                rintro _ _ _ _ ⟨rfl, v, rfl, ⟨u2, g2, e2, rfl, rfl, rfl⟩ | ⟨e, a1, p1, d1, u1, e2, rfl, rfl⟩⟩
                · rw [rB_sg]
                  have hu2 := hpo2.1.1 _ _ e2
                  refine x_istore C dX3_goes_114 116 rfl [_, _, _, _, _] (by decide) rfl rfl ?_
                  refine x_aloadr_n C dX3_goes_116 117 rfl rfl ?_
                  refine x_geti C fl_X3_294 (Or.inl rfl) dX3_goes_117 120 rfl hS.1 (tr51 _ _ _ _ _ _ _) ?_
                  refine x_ifleN C dX3_goes_120 123 124 rfl (by decide) (by omega) (fun _ => ?_) (fun h120 => absurd h120 (by omega))
                  refine x_aloadr_n C dX3_goes_124 125 rfl rfl ?_
                  refine x_bip (j := 59) C dX3_goes_125 127 rfl (by decide) ?_
                  refine x_callV C lk_X3_300 dX3_goes_127 130 rfl [_] [] rfl rfl hS.1 (Nat.le_of_ble_eq_true rfl) (by decide) (Nat.le_refl _) (Nat.le_refl _) (kX3_isSign hS) ?_
                  rintro _ _ _ _ ⟨rfl, rfl, rfl, rfl⟩
                  refine x_ifneZ C dX3_goes_130 133 139 rfl (by decide) (fun h130 => ?_) (fun h130 => ?_)
                  · refine x_aloadr_n C dX3_goes_139 140 rfl rfl ?_
                    refine x_callV C lk_X3_309 dX3_goes_140 143 rfl [] [] rfl rfl hS.1 (Nat.le_of_ble_eq_true rfl) (by decide) (Nat.le_refl _) (Nat.le_refl _) (kX3_nextc hS hzB hn htB hu2.2.1) ?_
                    rintro _ _ _ _ ⟨rfl, rfl, rfl, rfl⟩
                    refine x_aloadr_n C dX3_goes_143 144 rfl rfl ?_
                    refine x_dup C dX3_goes_144 145 rfl rfl ?_
                    refine x_geti C fl_X3_361 (Or.inl rfl) dX3_goes_145 148 rfl hS.1 ((trs _ _ _ _ _ _ _ (by omega)).trans (show rB I (nI L.length) (fnd kd (sg I) L) 473 58 = nI L.length from rfl)) ?_
                    refine x_ic (j := 1) C dX3_goes_148 149 rfl ?_
                    refine x_iadd C dX3_goes_149 150 rfl (nI_add _ _) ?_
                    refine x_puti C fl_X3_361 (Or.inl rfl) (Or.inl rfl) dX3_goes_150 153 rfl hS.1 ?_
                    rw [tm_in _ _ _ _ _ _ _ _ (by omega), rB_58]
                    refine x_iload_n C dX3_goes_153 154 rfl rfl ?_
                    refine x_iload_n C dX3_goes_154 155 rfl rfl ?_
                    refine x_icmpne C dX3_goes_155 158 195 rfl (by decide) (fun h155 => ?_) (fun h155 => ?_)
                    · refine x_goto C dX3_goes_195 29 (by decide) ?_
                      refine x_ls [some _, some _, none, none, none] ⟨rfl, rfl, trivial⟩ ?_
                      have hx3 := nx_le tx hu2.2.1
                      have ih2 := ih (nx tx n u2.1) (L ++ [(k, g, some g2)]) fp hx3.2.1 hx3.2.2.1 (by omega) (by rw [q4, if_neg (show ¬ t.2.2.1 = nI 0 from h40), hk]; simp [h59, e1, h103, e2, h130]) (by rw [List.length_append, List.length_singleton]; omega)
                      rw [List.length_append, List.length_singleton, fnd_app] at ih2
                      first
                        | (rw [fndS, if_neg (by rintro ⟨c1, c2, c3⟩; first | exact h155 (ek.trans c1) | exact h168 c3 | (have c2 : (!decide (g2 (sg I) = 0)) = true := c2; simp [h160] at c2))] at ih2; exact ih2)
                        | (rw [fndS, if_pos ⟨ek.symm.trans h155, by show (!decide (g2 (sg I) = 0)) = true; simp [h160], h168⟩] at ih2; simp only [clip, h40, h50, h59, h103, h130, h155] at ih2; simpa using ih2)
                    · refine x_iload C dX3_goes_158 160 rfl rfl ?_
                      refine x_ifeq C dX3_goes_160 163 195 rfl (by decide) (fun h160 => ?_) (fun h160 => ?_)
                      · refine x_goto C dX3_goes_195 29 (by decide) ?_
                        refine x_ls [some _, some _, none, none, none] ⟨rfl, rfl, trivial⟩ ?_
                        have hx3 := nx_le tx hu2.2.1
                        have ih2 := ih (nx tx n u2.1) (L ++ [(k, g, some g2)]) fp hx3.2.1 hx3.2.2.1 (by omega) (by rw [q4, if_neg (show ¬ t.2.2.1 = nI 0 from h40), hk]; simp [h59, e1, h103, e2, h130]) (by rw [List.length_append, List.length_singleton]; omega)
                        rw [List.length_append, List.length_singleton, fnd_app] at ih2
                        first
                          | (rw [fndS, if_neg (by rintro ⟨c1, c2, c3⟩; first | exact h155 (ek.trans c1) | exact h168 c3 | (have c2 : (!decide (g2 (sg I) = 0)) = true := c2; simp [h160] at c2))] at ih2; exact ih2)
                          | (rw [fndS, if_pos ⟨ek.symm.trans h155, by show (!decide (g2 (sg I) = 0)) = true; simp [h160], h168⟩] at ih2; simp only [clip, h40, h50, h59, h103, h130, h155, h160] at ih2; simpa using ih2)
                      · refine x_aloadr_n C dX3_goes_163 164 rfl rfl ?_
                        refine x_geti C fl_X3_364 (Or.inl rfl) dX3_goes_164 167 rfl hS.1 ((trs _ _ _ _ _ _ _ (by omega)).trans (show rB I (nI (L.length + 1)) (fnd kd (sg I) L) 473 59 = fnd kd (sg I) L from rfl)) ?_
                        refine x_icm C dX3_goes_167 168 rfl ?_
                        refine x_icmpne C dX3_goes_168 171 195 rfl (by decide) (fun h168 => ?_) (fun h168 => ?_)
                        · refine x_goto C dX3_goes_195 29 (by decide) ?_
                          refine x_ls [some _, some _, none, none, none] ⟨rfl, rfl, trivial⟩ ?_
                          have hx3 := nx_le tx hu2.2.1
                          have ih2 := ih (nx tx n u2.1) (L ++ [(k, g, some g2)]) fp hx3.2.1 hx3.2.2.1 (by omega) (by rw [q4, if_neg (show ¬ t.2.2.1 = nI 0 from h40), hk]; simp [h59, e1, h103, e2, h130]) (by rw [List.length_append, List.length_singleton]; omega)
                          rw [List.length_append, List.length_singleton, fnd_app] at ih2
                          first
                            | (rw [fndS, if_neg (by rintro ⟨c1, c2, c3⟩; first | exact h155 (ek.trans c1) | exact h168 c3 | (have c2 : (!decide (g2 (sg I) = 0)) = true := c2; simp [h160] at c2))] at ih2; exact ih2)
                            | (rw [fndS, if_pos ⟨ek.symm.trans h155, by show (!decide (g2 (sg I) = 0)) = true; simp [h160], h168⟩] at ih2; simp only [clip, h40, h50, h59, h103, h130, h155, h160, h168] at ih2; simpa using ih2)
                        · refine x_aloadr_n C dX3_goes_171 172 rfl rfl ?_
                          refine x_iload_n C dX3_goes_172 173 rfl rfl ?_
                          refine x_ifge C dX3_goes_173 176 180 rfl (by decide) (fun h173 => ?_) (fun h173 => ?_)
                          · refine x_iload_n C dX3_goes_180 181 rfl rfl ?_
                            refine x_bip (j := 100) C dX3_goes_181 183 rfl (by decide) ?_
                            refine x_icmple C dX3_goes_183 186 191 rfl (by decide) (fun h183 => ?_) (fun h183 => ?_)
                            · refine x_iload_n C dX3_goes_191 192 rfl rfl ?_
                              refine x_puti C fl_X3_364 (Or.inl rfl) (Or.inl rfl) dX3_goes_192 195 rfl hS.1 ?_
                              rw [tm_in _ _ _ _ _ _ _ _ (by omega), rB_59]
                              refine x_goto C dX3_goes_195 29 (by decide) ?_
                              refine x_ls [some _, some _, none, none, none] ⟨rfl, rfl, trivial⟩ ?_
                              have hx3 := nx_le tx hu2.2.1
                              have ih2 := ih (nx tx n u2.1) (L ++ [(k, g, some g2)]) fp hx3.2.1 hx3.2.2.1 (by omega) (by rw [q4, if_neg (show ¬ t.2.2.1 = nI 0 from h40), hk]; simp [h59, e1, h103, e2, h130]) (by rw [List.length_append, List.length_singleton]; omega)
                              rw [List.length_append, List.length_singleton, fnd_app] at ih2
                              first
                                | (rw [fndS, if_neg (by rintro ⟨c1, c2, c3⟩; first | exact h155 (ek.trans c1) | exact h168 c3 | (have c2 : (!decide (g2 (sg I) = 0)) = true := c2; simp [h160] at c2))] at ih2; exact ih2)
                                | (rw [fndS, if_pos ⟨ek.symm.trans h155, by show (!decide (g2 (sg I) = 0)) = true; simp [h160], h168⟩] at ih2; simp only [clip, h40, h50, h59, h103, h130, h155, h160, h168, h173, h183] at ih2; simpa using ih2)
                            · refine x_bip (j := 100) C dX3_goes_186 188 rfl (by decide) ?_
                              refine x_goto C dX3_goes_188 192 (by decide) ?_
                              refine x_puti C fl_X3_364 (Or.inl rfl) (Or.inl rfl) dX3_goes_192 195 rfl hS.1 ?_
                              rw [tm_in _ _ _ _ _ _ _ _ (by omega), rB_59]
                              refine x_goto C dX3_goes_195 29 (by decide) ?_
                              refine x_ls [some _, some _, none, none, none] ⟨rfl, rfl, trivial⟩ ?_
                              have hx3 := nx_le tx hu2.2.1
                              have ih2 := ih (nx tx n u2.1) (L ++ [(k, g, some g2)]) fp hx3.2.1 hx3.2.2.1 (by omega) (by rw [q4, if_neg (show ¬ t.2.2.1 = nI 0 from h40), hk]; simp [h59, e1, h103, e2, h130]) (by rw [List.length_append, List.length_singleton]; omega)
                              rw [List.length_append, List.length_singleton, fnd_app] at ih2
                              first
                                | (rw [fndS, if_neg (by rintro ⟨c1, c2, c3⟩; first | exact h155 (ek.trans c1) | exact h168 c3 | (have c2 : (!decide (g2 (sg I) = 0)) = true := c2; simp [h160] at c2))] at ih2; exact ih2)
                                | (rw [fndS, if_pos ⟨ek.symm.trans h155, by show (!decide (g2 (sg I) = 0)) = true; simp [h160], h168⟩] at ih2; simp only [clip, h40, h50, h59, h103, h130, h155, h160, h168, h173, h183] at ih2; simpa using ih2)
                          · refine x_ic (j := 0) C dX3_goes_176 177 rfl ?_
                            refine x_goto C dX3_goes_177 192 (by decide) ?_
                            refine x_puti C fl_X3_364 (Or.inl rfl) (Or.inl rfl) dX3_goes_192 195 rfl hS.1 ?_
                            rw [tm_in _ _ _ _ _ _ _ _ (by omega), rB_59]
                            refine x_goto C dX3_goes_195 29 (by decide) ?_
                            refine x_ls [some _, some _, none, none, none] ⟨rfl, rfl, trivial⟩ ?_
                            have hx3 := nx_le tx hu2.2.1
                            have ih2 := ih (nx tx n u2.1) (L ++ [(k, g, some g2)]) fp hx3.2.1 hx3.2.2.1 (by omega) (by rw [q4, if_neg (show ¬ t.2.2.1 = nI 0 from h40), hk]; simp [h59, e1, h103, e2, h130]) (by rw [List.length_append, List.length_singleton]; omega)
                            rw [List.length_append, List.length_singleton, fnd_app] at ih2
                            first
                              | (rw [fndS, if_neg (by rintro ⟨c1, c2, c3⟩; first | exact h155 (ek.trans c1) | exact h168 c3 | (have c2 : (!decide (g2 (sg I) = 0)) = true := c2; simp [h160] at c2))] at ih2; exact ih2)
                              | (rw [fndS, if_pos ⟨ek.symm.trans h155, by show (!decide (g2 (sg I) = 0)) = true; simp [h160], h168⟩] at ih2; simp only [clip, h40, h50, h59, h103, h130, h155, h160, h168, h173] at ih2; simpa using ih2)
                  · refine x_aloadr_n C dX3_goes_133 134 rfl rfl ?_
                    refine x_ic (j := 1) C dX3_goes_134 135 rfl ?_
                    refine x_callV C lk_X3_306 dX3_goes_135 138 rfl [_] [] rfl rfl hS.1 (Nat.le_of_ble_eq_true rfl) (by decide) (Nat.le_refl _) (Nat.le_refl _) (kX3_wrong hS) ?_
                    rintro _ _ _ _ ⟨rfl, rfl, rfl, rfl⟩
                    exact x_vret C dX3_goes_138 (Nat.le_refl _) (Nat.le_refl _) (EndG.er (by rw [q4, if_neg (show ¬ t.2.2.1 = nI 0 from h40), hk]; simp [h59, e1, h103, e2, h130]))
                · have hu2 := hpo2.1.2 _ e2
                  refine x_istore C dX3_goes_114 116 rfl [_, _, _, _, _] (by decide) rfl rfl ?_
                  refine x_aloadr_n C dX3_goes_116 117 rfl rfl ?_
                  refine x_geti C fl_X3_294 (Or.inl rfl) dX3_goes_117 120 rfl hS.1 (tr51 _ _ _ _ _ _ _) ?_
                  refine x_ifleN C dX3_goes_120 123 124 rfl (by decide) (by omega) (fun h120 => absurd h120 (by omega)) (fun _ => ?_)
                  exact x_vret C dX3_goes_123 (Nat.le_refl _) (Nat.le_refl _) (EndG.er' (by rw [q4, if_neg (show ¬ t.2.2.1 = nI 0 from h40), hk]; simp [h59, e1, h103, e2]))
            · have hu := hpo.1.2 _ e1
              refine x_istore_n C dX3_goes_85 86 rfl [_, _, _, _, _] (by decide) rfl rfl ?_
              refine x_ic (j := 1) C dX3_goes_86 87 rfl ?_
              refine x_istore C dX3_goes_87 89 rfl [_, _, _, _, _] (by decide) rfl rfl ?_
              refine x_aloadr_n C dX3_goes_89 90 rfl rfl ?_
              refine x_geti C fl_X3_294 (Or.inl rfl) dX3_goes_90 93 rfl hS.1 (tr51 _ _ _ _ _ _ _) ?_
              refine x_ifneN C dX3_goes_93 96 116 rfl (by decide) (by omega) (fun _ => ?_) (fun h93 => absurd h93 (by omega))
              refine x_aloadr_n C dX3_goes_116 117 rfl rfl ?_
              refine x_geti C fl_X3_294 (Or.inl rfl) dX3_goes_117 120 rfl hS.1 (tr51 _ _ _ _ _ _ _) ?_
              refine x_ifleN C dX3_goes_120 123 124 rfl (by decide) (by omega) (fun h120 => absurd h120 (by omega)) (fun _ => ?_)
              exact x_vret C dX3_goes_123 (Nat.le_refl _) (Nat.le_refl _) (EndG.er' (by rw [q4, if_neg (show ¬ t.2.2.1 = nI 0 from h40), hk]; simp [h59, e1]))
          · refine x_aloadr_n C dX3_goes_62 63 rfl rfl ?_
            refine x_iload_n C dX3_goes_63 64 rfl rfl ?_
            refine x_icm C dX3_goes_64 65 rfl ?_
            refine x_icmpne C dX3_goes_65 68 72 rfl (by decide) (fun _ => ?_) (fun h65 => absurd h65 h50)
            refine x_ic (j := 2) C dX3_goes_72 73 rfl ?_
            refine x_callV C lk_X3_306 dX3_goes_73 76 rfl [_] [] rfl rfl hS.1 (Nat.le_of_ble_eq_true rfl) (by decide) (Nat.le_refl _) (Nat.le_refl _) (kX3_wrong hS) ?_
            rintro _ _ _ _ ⟨rfl, rfl, rfl, rfl⟩
            exact x_vret C dX3_goes_76 (Nat.le_refl _) (Nat.le_refl _) (EndG.er (by rw [q4, if_neg (show ¬ t.2.2.1 = nI 0 from h40), hk]; simp [h59]))
  refine x_eqI ((tm_self I).symm.trans (congrArg (fun M => tmI M _ _ _ _ _ _) (rB_self I).symm)) ?_
  refine x_eqJ (tmJ_self J).symm ?_
  have h0 := nx_le tx (Nat.zero_le n)
  refine x_aloadr_n C dX3_goes_0 1 rfl rfl ?_
  refine x_ic (j := 0) C dX3_goes_1 2 rfl ?_
  refine x_puti C fl_X3_249 (Or.inl rfl) (Or.inl rfl) dX3_goes_2 5 rfl hS.1 ?_
  refine x_eqI (tw47 _ _ _ _ _ _ _ _) ?_
  refine x_aloadr_n C dX3_goes_5 6 rfl rfl ?_
  refine x_ic (j := 0) C dX3_goes_6 7 rfl ?_
  refine x_puti C fl_X3_303 (Or.inl rfl) (Or.inl rfl) dX3_goes_7 10 rfl hS.1 ?_
  refine x_eqI (tw50 _ _ _ _ _ _ _ _) ?_
  refine x_aloadr_n C dX3_goes_10 11 rfl rfl ?_
  refine x_ic (j := 0) C dX3_goes_11 12 rfl ?_
  refine x_puti C fl_X3_294 (Or.inl rfl) (Or.inl rfl) dX3_goes_12 15 rfl hS.1 ?_
  refine x_eqI (tw51 _ _ _ _ _ _ _ _) ?_
  refine x_aloadr_n C dX3_goes_15 16 rfl rfl ?_
  refine x_ic (j := 0) C dX3_goes_16 17 rfl ?_
  refine x_puti C fl_X3_361 (Or.inl rfl) (Or.inl rfl) dX3_goes_17 20 rfl hS.1 ?_
  rw [tm_in _ _ _ _ _ _ _ _ (by omega), rB_58]
  refine x_aloadr_n C dX3_goes_20 21 rfl rfl ?_
  refine x_icm C dX3_goes_21 22 rfl ?_
  refine x_puti C fl_X3_364 (Or.inl rfl) (Or.inl rfl) dX3_goes_22 25 rfl hS.1 ?_
  rw [tm_in _ _ _ _ _ _ _ _ (by omega), rB_59]
  refine x_aloadr_n C dX3_goes_25 26 rfl rfl ?_
  refine x_callV C lk_X3_309 dX3_goes_26 29 rfl [] [] rfl rfl hS.1 (Nat.le_of_ble_eq_true rfl) (by decide) (Nat.le_refl _) (Nat.le_refl _) (kX3_nextc hS (show rB I _ _ 473 46 = nI n from hz) hn (show ct (rB I _ _ 507) n = tx from htx) (Nat.zero_le n)) ?_
  rintro _ _ _ _ ⟨rfl, rfl, rfl, rfl⟩
  exact hl (n + 1) (nx tx n 0) [] _ h0.2.1 h0.2.2.1 (by omega) rfl (by simp)
end Tw10
