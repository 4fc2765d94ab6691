/-! the component: the loss of a state -/
theorem CoR_25 {K : Ly} {S : Sh} {I T : Mi} (h : CoR K S I T) (v : Int32) : CoR K S (sto I 0 25 v) T := by
  refine CoR_sc h (fun a ha => sto_n _ _ _ ha) (fun _ _ => rfl) ?_ rfl rfl rfl rfl
  obtain ⟨g1, g2, g3, g4, g5, g6, g7, g8, g9, g10, g11, g12, g13, g14, g15, g16⟩ := h.2.1
  exact ⟨g1, g2, g3, g4, g5, g6, g7, g8, g9, g10, g11, g12, g13, g14, g15, g16⟩
/-- what a loss leaves as it was -/
def lsM (I M : Mi) : Prop := (∀ a, a ≠ 0 → a ≠ 8 → M a = I a) ∧ (∀ i, i ≠ 25 → M 0 i = I 0 i) ∧ (∀ i, 3 ≤ i → M 8 i = I 8 i)
theorem CoR_ls {K : Ly} {S : Sh} {I M T : Mi} (h : CoR K S I T) (hM : lsM I M) : CoR K S M T := by
  have h1 : CoR K S (wr I 8 (M 8)) T := CoR_8 h (fun a ha => wr_n _ _ ha)
  have h2 := CoR_25 h1 (M 0 25)
  have : M = sto (wr I 8 (M 8)) 0 25 (M 0 25) := by
    funext a i
    rw [sto_at]
    by_cases h0 : a = 0
    · subst h0
      by_cases hi : i = 25
      · subst hi
        simp
      · rw [if_neg (fun q => hi q.2), wr_n _ _ (by decide)]
        exact hM.2.1 i hi
    · rw [if_neg (fun q => h0 q.1)]
      by_cases h8 : a = 8
      · subst h8
        rw [wr_s]
      · rw [wr_n _ _ h8, hM.1 a h0 h8]
  rw [this]
  exact h2
section Co38
variable {w : Wd} {l : Launch} {K : Ly} {S : Sh} {I T : Mi} {J : Ml}
theorem kX1_lossOf (hR : CoR K S I T) (hI : Tok T) {t e h u up dw sm : Nat} (ht : t < tn T) (he : e < 30) (hh : h ≤ 10) (hu : u ≤ 10) (hup : up ≤ 3) (hdw : dw ≤ 3) (hsm : sm ≤ 1000) (h3 : I 8 3 = nI (peopN T t (pn T))) (h4 : I 8 4 = T 473 16) (hF : ∀ h k, h ≤ 10 → k ≤ 10 → I (87 + 12 * e + h) k = nI (Lo (feI T t) up dw sm e h k)) : Ct w l yX1_lossOf cX1_lossOf 11 (some .int) 504 0 0 [.ref 0, .ref (ta K t), .int (nI (e + 1)), .int (nI h), .int (nI u), .int (nI up), .int (nI dw)] S I J (fun r S' I' J' => r = some (.int (nI (Lo (feI T t) up dw sm (e + 1) h u))) ∧ S = S' ∧ J = J' ∧ lsM I I' ∧ I' 0 25 = nI (gaN (feI T t) up dw sm h u (e + 1))) := by
  have hC := cr_S hR
  have hS2 : S.1 8 = 2 := coA_state hC
  have hLo : ∀ h k, h ≤ 10 → k ≤ 10 → Lo (feI T t) up dw sm e h k ≤ 10000 := fun h k q1 q2 => Lo_le hsm e h k q1 q2
  have hfe : tol (rulesOf T t) (nI 0) (stL T t (e + 1) h u) = nI (feI T t (e + 1) h u) ∧ feI T t (e + 1) h u ≤ 100 := tol_ok _ _ _
  have hwl : ∀ h', h' ≤ 10 → wY (Lo (feI T t) up dw sm e h') u dw (up + dw + 1) ≤ 10000 := fun h' q => wY_le (fun x hx => hLo h' x q hx) _
  obtain ⟨g, hg⟩ : ∃ g, g = loG (feI T t) (Lo (feI T t) up dw sm e) up dw (e + 1) h u := ⟨_, rfl⟩
  have hgr : ∀ r, g r = r * feI T t (e + 1) h u + wY (Lo (feI T t) up dw sm e (h - r)) u dw (up + dw + 1) := fun r => by rw [hg]; rfl
  have hg0 : g 0 ≤ 10000 := by rw [hgr, Nat.zero_mul, Nat.zero_add, Nat.sub_zero]; exact hwl h hh
  have hres : Lo (feI T t) up dw sm (e + 1) h u = (mn g (h + 1)).1 ∧ gaN (feI T t) up dw sm h u (e + 1) = (mn g (h + 1)).2 := by rw [hg]; exact ⟨rfl, rfl⟩
  have hmn : ∀ k, (mn g (k + 1)).1 ≤ 10000 := fun k => Nat.le_trans (mn_le (by omega) k) hg0
  have hmg : ∀ k, (mn g (k + 1)).2 ≤ k := fun k => by
    induction k with
    | zero => unfold mn mn; split <;> simp
    | succ k ih =>
      rw [mn]
      split
      · exact Nat.le_refl _
      · omega
  rw [hres.1, hres.2]
  refine Ct.of [some _, some _, some _, some _, some _, some _, some _, none, none, none, none] rfl (Nat.le_of_ble_eq_true rfl) (by decide) ?_
  intro κ hκ C
  subst hκ
  obtain ⟨M, hM⟩ : ∃ M, M = sto (sto (sto I 8 0 (nI (e + 1))) 8 1 (nI h)) 8 2 (nI u) := ⟨_, rfl⟩
  have hMn : ∀ a, a ≠ 8 → M a = I a := fun a ha => by rw [hM, sto_n _ _ _ ha, sto_n _ _ _ ha, sto_n _ _ _ ha]
  have hMR : CoR K S M T := CoR_8 hR hMn
  have hsg : sg8 M = stL T t (e + 1) h u := by
    funext k
    rw [hM]
    match k with
    | 0 => rfl
    | 1 => rfl
    | 2 => rfl
    | 3 => exact h3
    | k + 4 => exact h4
  have hl : ∀ (j r : Nat) (N : Mi), r + j = h → (∀ a, a ≠ 0 → N a = M a) → (∀ i, i ≠ 25 → N 0 i = M 0 i) → N 0 25 = nI (mn g (r + 1)).2 → XX w κ (Zr w κ (fun r S' I' J' => r = some (.int (nI (mn g (h + 1)).1)) ∧ S = S' ∧ J = J' ∧ lsM I I' ∧ I' 0 25 = nI (mn g (h + 1)).2)) 0 0 55 [some (.ref 0), some (.ref (ta K t)), some (.int (nI (e + 1))), some (.int (nI h)), some (.int (nI u)), some (.int (nI up)), some (.int (nI dw)), some (.int (nI (feI T t (e + 1) h u))), some (.int (nI (mn g (r + 1)).1)), some (.int (nI (r + 1))), none] [] S N J := by
    intro j
    induction j with
    | zero =>
      intro r N ej n1 n2 n3
      have ej : r = h := ej
      subst ej
      refine x_iload C dX1_lossOf_55 57 rfl rfl ?_
      refine x_iload_n C dX1_lossOf_57 58 rfl rfl ?_
      refine x_icmpgtN C dX1_lossOf_58 61 110 rfl (by decide) (by omega) (by omega) (fun _ => ?_) (fun h58 => absurd h58 (by omega))
      refine x_iload C dX1_lossOf_110 112 rfl rfl ?_
      exact x_iret C dX1_lossOf_112 (Nat.le_refl _) (Nat.le_refl _) ⟨rfl, rfl, rfl, ⟨fun a q1 q2 => (n1 a q1).trans (hMn a q2), fun i q => (n2 i q).trans (congrFun (hMn 0 (by decide)) i), fun i q => (congrFun (n1 8 (by decide)) i).trans (by rw [hM, sto_kn _ _ _ _ (by omega), sto_kn _ _ _ _ (by omega), sto_kn _ _ _ _ (by omega)])⟩, n3⟩
    | succ j ih =>
      intro r N ej n1 n2 n3
      have hv := hgr (r + 1)
      have hw1 := hwl (h - (r + 1)) (by omega)
      have hmul : (r + 1) * feI T t (e + 1) h u ≤ 10 * 100 := Nat.mul_le_mul (by omega) hfe.2
      have hm1 := hmn r
      have hst : mn g (r + 1 + 1) = if g (r + 1) < (mn g (r + 1)).1 then (g (r + 1), r + 1) else mn g (r + 1) := rfl
      refine x_iload C dX1_lossOf_55 57 rfl rfl ?_
      refine x_iload_n C dX1_lossOf_57 58 rfl rfl ?_
      refine x_icmpgtN C dX1_lossOf_58 61 110 rfl (by decide) (by omega) (by omega) (fun h58 => absurd h58 (by omega)) (fun _ => ?_)
      refine x_iload C dX1_lossOf_61 63 rfl rfl ?_
      refine x_iload C dX1_lossOf_63 65 rfl rfl ?_
      refine x_imul C dX1_lossOf_65 66 rfl (pk_mul _ _) ?_
      refine x_aloadr_n C dX1_lossOf_66 67 rfl rfl ?_
      refine x_iload_n C dX1_lossOf_67 68 rfl rfl ?_
      refine x_iload_n C dX1_lossOf_68 69 rfl rfl ?_
      refine x_iload C dX1_lossOf_69 71 rfl rfl ?_
      refine x_isub C dX1_lossOf_71 72 rfl (pk_sub (by omega)) ?_
      refine x_iload C dX1_lossOf_72 74 rfl rfl ?_
      refine x_iload C dX1_lossOf_74 76 rfl rfl ?_
      refine x_iload C dX1_lossOf_76 78 rfl rfl ?_
      refine x_callV C lk_X1_364 dX1_lossOf_78 81 rfl [_, _, _, _, _] [_] rfl rfl hC.1 (Nat.le_of_ble_eq_true rfl) (by omega) (Nat.le_refl _) (Nat.le_refl _) (kX1_worstOf hC (b := 10000) he (show h - (r + 1) ≤ 10 by omega) hu hup hdw (by decide) (fun k q => ⟨by rw [n1 _ (by omega), hMn _ (by omega)]; exact hF _ k (by omega) q, hLo _ k (by omega) q⟩)) ?_
      rintro _ _ _ _ ⟨rfl, rfl, rfl, rfl⟩
      refine x_iadd C dX1_lossOf_81 82 rfl ((nI_add _ _).trans (congrArg nI hv.symm)) ?_
      refine x_istore C dX1_lossOf_82 84 rfl [_, _, _, _, _, _, _, _, _, _, _] (by decide) rfl rfl ?_
      refine x_iload C dX1_lossOf_84 86 rfl rfl ?_
      refine x_iload C dX1_lossOf_86 88 rfl rfl ?_
      refine x_icmpltN C dX1_lossOf_88 91 94 rfl (by decide) (by omega) (by omega) (fun h88 => ?_) (fun h88 => ?_)
      · refine x_iload C dX1_lossOf_94 96 rfl rfl ?_
        refine x_istore C dX1_lossOf_96 98 rfl [_, _, _, _, _, _, _, _, _, _, _] (by decide) rfl rfl ?_
        refine x_aloadr_n C dX1_lossOf_98 99 rfl rfl ?_
        refine x_iload C dX1_lossOf_99 101 rfl rfl ?_
        refine x_puti C fl_X1_368 (Or.inl rfl) (Or.inl rfl) dX1_lossOf_101 104 rfl hC.1 ?_
        refine x_iinc C dX1_lossOf_104 107 rfl [_, _, _, _, _, _, _, _, _, _, _] (nI_inc _) (by decide) rfl rfl rfl ?_
        refine x_goto C dX1_lossOf_107 55 (by decide) ?_
        refine x_ls [some _, some _, some _, some _, some _, some _, some _, some _, some _, some _, none] ⟨rfl, rfl, rfl, rfl, rfl, rfl, rfl, rfl, rfl, rfl, trivial⟩ ?_
        first
          | exact ih (r + 1) (sto N 0 25 (nI (r + 1))) (by omega) (fun a q => (sto_n _ _ _ q).trans (n1 a q)) (fun i q => (sto_kn _ _ _ _ q).trans (n2 i q)) (by rw [sto_ss, hst, if_pos h88])
          | (have := ih (r + 1) N (by omega) n1 n2 (by rw [hst, if_neg h88]; exact n3); rw [hst, if_neg h88] at this; exact this)
          | (have := ih (r + 1) (sto N 0 25 (nI (r + 1))) (by omega) (fun a q => (sto_n _ _ _ q).trans (n1 a q)) (fun i q => (sto_kn _ _ _ _ q).trans (n2 i q)) (by rw [sto_ss, hst, if_pos h88]); rw [hst, if_pos h88] at this; exact this)
      · refine x_goto C dX1_lossOf_91 104 (by decide) ?_
        refine x_iinc C dX1_lossOf_104 107 rfl [_, _, _, _, _, _, _, _, _, _, _] (nI_inc _) (by decide) rfl rfl rfl ?_
        refine x_goto C dX1_lossOf_107 55 (by decide) ?_
        refine x_ls [some _, some _, some _, some _, some _, some _, some _, some _, some _, some _, none] ⟨rfl, rfl, rfl, rfl, rfl, rfl, rfl, rfl, rfl, rfl, trivial⟩ ?_
        first
          | exact ih (r + 1) (sto N 0 25 (nI (r + 1))) (by omega) (fun a q => (sto_n _ _ _ q).trans (n1 a q)) (fun i q => (sto_kn _ _ _ _ q).trans (n2 i q)) (by rw [sto_ss, hst, if_pos h88])
          | (have := ih (r + 1) N (by omega) n1 n2 (by rw [hst, if_neg h88]; exact n3); rw [hst, if_neg h88] at this; exact this)
          | (have := ih (r + 1) (sto N 0 25 (nI (r + 1))) (by omega) (fun a q => (sto_n _ _ _ q).trans (n1 a q)) (fun i q => (sto_kn _ _ _ _ q).trans (n2 i q)) (by rw [sto_ss, hst, if_pos h88]); rw [hst, if_pos h88] at this; exact this)
  have hm01 : mn g (0 + 1) = (g 0, 0) := by
    show (if g 0 < 1073741824 then (g 0, 0) else (1073741824, 0)) = _
    rw [if_pos (by omega)]
  refine x_aloadr_n C dX1_lossOf_0 1 rfl rfl ?_
  refine x_getr C fl_X1_48 (Or.inl ⟨_, rfl⟩) dX1_lossOf_1 4 rfl hC.1 (coR_state hC) ?_
  refine x_iload_n C dX1_lossOf_4 5 rfl rfl ?_
  refine x_puti C fl_X1_332 (Or.inl rfl) (Or.inl rfl) dX1_lossOf_5 8 rfl hS2 ?_
  refine x_aloadr_n C dX1_lossOf_8 9 rfl rfl ?_
  refine x_getr C fl_X1_48 (Or.inl ⟨_, rfl⟩) dX1_lossOf_9 12 rfl hC.1 (coR_state hC) ?_
  refine x_iload_n C dX1_lossOf_12 13 rfl rfl ?_
  refine x_puti C fl_X1_337 (Or.inl rfl) (Or.inl rfl) dX1_lossOf_13 16 rfl hS2 ?_
  refine x_aloadr_n C dX1_lossOf_16 17 rfl rfl ?_
  refine x_getr C fl_X1_48 (Or.inl ⟨_, rfl⟩) dX1_lossOf_17 20 rfl hC.1 (coR_state hC) ?_
  refine x_iload C dX1_lossOf_20 22 rfl rfl ?_
  refine x_puti C fl_X1_342 (Or.inl rfl) (Or.inl rfl) dX1_lossOf_22 25 rfl hS2 ?_
  rw [← hM]
  refine x_aloadr_n C dX1_lossOf_25 26 rfl rfl ?_
  refine x_aloadr_n C dX1_lossOf_26 27 rfl rfl ?_
  refine x_ic (j := 0) C dX1_lossOf_27 28 rfl ?_
  refine x_callV C lk_X1_353 dX1_lossOf_28 31 rfl [_, _] [] rfl rfl hC.1 (Nat.le_of_ble_eq_true rfl) (by omega) (Nat.le_refl _) (Nat.le_refl _) (kX1_worthOf hMR hI ht) ?_
  rintro _ _ _ _ ⟨rfl, rfl, rfl, rfl⟩
  rw [hsg, hfe.1]
  refine x_istore C dX1_lossOf_31 33 rfl [_, _, _, _, _, _, _, _, _, _, _] (by decide) rfl rfl ?_
  refine x_aloadr_n C dX1_lossOf_33 34 rfl rfl ?_
  refine x_iload_n C dX1_lossOf_34 35 rfl rfl ?_
  refine x_iload_n C dX1_lossOf_35 36 rfl rfl ?_
  refine x_iload C dX1_lossOf_36 38 rfl rfl ?_
  refine x_iload C dX1_lossOf_38 40 rfl rfl ?_
  refine x_iload C dX1_lossOf_40 42 rfl rfl ?_
  refine x_callV C lk_X1_364 dX1_lossOf_42 45 rfl [_, _, _, _, _] [] rfl rfl hC.1 (Nat.le_of_ble_eq_true rfl) (by omega) (Nat.le_refl _) (Nat.le_refl _) (kX1_worstOf hC (b := 10000) he hh hu hup hdw (by decide) (fun k q => ⟨by rw [hMn _ (by omega)]; exact hF h k hh q, hLo h k hh q⟩)) ?_
  rintro _ _ _ _ ⟨rfl, rfl, rfl, rfl⟩
  refine x_istore C dX1_lossOf_45 47 rfl [_, _, _, _, _, _, _, _, _, _, _] (by decide) rfl rfl ?_
  refine x_aloadr_n C dX1_lossOf_47 48 rfl rfl ?_
  refine x_ic (j := 0) C dX1_lossOf_48 49 rfl ?_
  refine x_puti C fl_X1_368 (Or.inl rfl) (Or.inl rfl) dX1_lossOf_49 52 rfl hC.1 ?_
  refine x_ic (j := 1) C dX1_lossOf_52 53 rfl ?_
  refine x_istore C dX1_lossOf_53 55 rfl [_, _, _, _, _, _, _, _, _, _, _] (by decide) rfl rfl ?_
  have := hl h 0 (sto M 0 25 (nI 0)) (Nat.zero_add _) (fun a q => sto_n _ _ _ q) (fun i q => sto_kn _ _ _ _ q) (by rw [sto_ss, hm01])
  rw [hm01, show g 0 = wY (Lo (feI T t) up dw sm e h) u dw (up + dw + 1) by rw [hgr, Nat.zero_mul, Nat.zero_add, Nat.sub_zero]] at this
  exact this
end Co38
