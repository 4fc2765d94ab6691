/-! the component: notes -/
/-- the twin's own cells and the law's are as they were -/
def fzI (I I' : Mi) : Prop := ∀ a, 473 ≤ a → a ≤ 519 → I' a = I a
theorem fz_rfl {I : Mi} : fzI I I := fun _ _ _ => rfl
theorem fz_sto {I I' : Mi} {b i : Nat} {v : Int32} (h : fzI I I') (hb : b < 473 ∨ 519 < b) : fzI I (sto I' b i v) := fun a h1 h2 => by rw [sto_n _ _ _ (by omega)]; exact h a h1 h2
theorem fz_tr {I I' I'' : Mi} (h : fzI I I') (h' : fzI I' I'') : fzI I I'' := fun a h1 h2 => (h' a h1 h2).trans (h a h1 h2)
/-- an answer, the same shape, a new memory that follows the twin's -/
def Qk (r : Option Value) (T' : Mi) (K : Ly) (S : Sh) (I : Mi) (J : Ml) : Option Value → Sh → Mi → Ml → Prop := fun r' S' I' J' => r' = r ∧ S = S' ∧ J = J' ∧ CoR K S I' T' ∧ fzI I I'
theorem Qk_of {r : Option Value} {T' : Mi} {K : Ly} {S : Sh} {I I' : Mi} {J : Ml} (h : CoR K S I' T') (hf : fzI I I') : Qk r T' K S I J r S I' J := ⟨rfl, rfl, rfl, h, hf⟩
section
variable {K : Ly} {S : Sh} {I T : Mi}
/-- the component's notes -/
def cnS (K : Ly) (I : Mi) (t p : Nat) (n : Nat) (room dy nm : Int32) : Mi := sto (sto (sto (sto (sto (sto I (ta K t + 2) p room) 3 n (nI t)) 4 n (nI p)) 5 n room) 6 n dy) 0 10 nm
theorem cnS_n {t p n : Nat} {room dy nm : Int32} {a : Nat} (h : a ≠ ta K t + 2) (h0 : a ≠ 0) (h3 : a ≠ 3) (h4 : a ≠ 4) (h5 : a ≠ 5) (h6 : a ≠ 6) : cnS K I t p n room dy nm a = I a := by
  unfold cnS
  rw [sto_n _ _ _ h0, sto_n _ _ _ h6, sto_n _ _ _ h5, sto_n _ _ _ h4, sto_n _ _ _ h3, sto_n _ _ _ h]
theorem CoR_note (hR : CoR K S I T) (hI : Tok T) {t p : Nat} {room : Int32} (ht : t < tn T) (hp : p < 10) (hn : nn T < 500) : CoR K S (cnS K I t p (nn T) room (T 473 14) (T 473 26 + nI 1)) (noteS T t p room) := by
  have hC := cr_S hR
  have ht6 := tk_t2 hI
  have h0 := cs_noteMany hR
  have hnn : nn (noteS T t p room) = nn T + 1 := by
    show nt (noteS T t p room 473 26) = _
    rw [noteS_cnt, tk_n hI, nI_add, nt_nI (by omega)]
  have e473 : ∀ i, i ≠ 26 → noteS T t p room 473 i = T 473 i := fun i hi => noteS_473 T t p room hi
  have er : ∀ a, a ≠ 473 ∧ a ≠ 490 ∧ a ≠ 491 ∧ a ≠ 492 ∧ a ≠ 493 → noteS T t p room a = T a := fun a h => noteS_row T t p room h
  have hne := fun (a : Nat) (ha : a < 520) => (ap_tf hR (a := a) ht ha).2
  have e0 : ∀ i, i ≠ 10 → cnS K I t p (nn T) room (T 473 14) (T 473 26 + nI 1) 0 i = I 0 i := by
    intro i hi
    unfold cnS
    rw [sto_kn _ _ _ _ hi]
    show sto I (ta K t + 2) p room 0 i = _
    rw [sto_n _ _ _ (Ne.symm (hne 0 (by omega)))]
  have hfx : ∀ a, 6 < a → a < 520 → cnS K I t p (nn T) room (T 473 14) (T 473 26 + nI 1) a = I a := fun a h1 h2 => cnS_n (Ne.symm (hne a h2)) (by omega) (by omega) (by omega) (by omega) (by omega)
  refine CoR_mem hR ?_ (by show nt _ = nt _; rw [e473 1 (by decide)]) (by show nt _ = nt _; rw [e473 11 (by decide)]) (fun u _ => by show nt _ = nt _; rw [er 485 (by decide)]) (fun q hq => ?_) (fun u hu => ?_) ?_ ⟨er 504 (by decide), er 505 (by decide)⟩ (er 506 (by decide)) ?_ ?_ ?_ ?_
  · obtain ⟨g1, g2, g3, g4, g5, g6, g7, g8, g9, g10, g11, g12, g13, g14, g15, g16⟩ := hR.2.1
    unfold coSc
    rw [e0 2 (by decide), e0 3 (by decide), e0 4 (by decide), e0 5 (by decide), e0 6 (by decide), e0 7 (by decide), e0 8 (by decide), e0 9 (by decide), e0 11 (by decide), e0 17 (by decide), e0 30 (by decide), e0 35 (by decide), e0 36 (by decide), e0 37 (by decide), e0 38 (by decide), e473 1 (by decide), e473 11 (by decide), e473 12 (by decide), e473 13 (by decide), e473 14 (by decide), e473 15 (by decide), e473 16 (by decide), e473 17 (by decide), e473 37 (by decide), e473 41 (by decide), e473 63 (by decide), e473 70 (by decide), e473 71 (by decide), e473 72 (by decide), e473 73 (by decide), e473 74 (by decide), noteS_cnt]
    exact ⟨g1, g2, g3, g4, g5, g6, g7, g8, by unfold cnS; rw [sto_ss], g10, g11, g12, g13, g14, g15, g16⟩
  · refine perR_k (cr_pe hR hq) (cnS_n (ap_tag (cp_T hR hq) (ct_listA hR ht) (by decide)) (ap_pf hR hq (by decide)) (ap_pf hR hq (by decide)) (ap_pf hR hq (by decide)) (ap_pf hR hq (by decide)) (ap_pf hR hq (by decide))) (fun b hb => er b ?_)
    simp only [List.mem_cons, List.not_mem_nil, or_false] at hb
    omega
  · have h490 : ∀ i, noteS T t p room 490 i = if i = 10 * t + p then room else T 490 i := noteS_list T t p room
    have hu := cr_to hR hu
    have hu' : u < tn T := by assumption
    obtain ⟨g1, g2, g3, g4, g5, g6, g7, g8, g9, g10, g11, g12, g13, g14⟩ := hu
    have hi : cnS K I t p (nn T) room (T 473 14) (T 473 26 + nI 1) (ta K u) = I (ta K u) := cnS_n (ap_tag (ct_T hR hu') (ct_listA hR ht) (by decide)) (ap_tf hR hu' (by decide)).1 (ap_tf hR hu' (by decide)).1 (ap_tf hR hu' (by decide)).1 (ap_tf hR hu' (by decide)).1 (ap_tf hR hu' (by decide)).1
    unfold towR
    have hrn : rn (noteS T t p room) u = rn T u := by show nt _ = nt _; rw [er 485 (by decide)]
    rw [hi, er 483 (by decide), er 484 (by decide), er 485 (by decide), hrn]
    refine ⟨g1, g2, g3, g4, g5, g6, g7, g8, g9, g10, g11, g12, fun q hq => ?_, fun r hr => ?_⟩
    · have h2 : cnS K I t p (nn T) room (T 473 14) (T 473 26 + nI 1) (ta K u + 2) = sto I (ta K t + 2) p room (ta K u + 2) := by
        unfold cnS
        have hz := fun (a : Nat) (ha : a < 520) => (ap_tf hR (a := a) hu' ha).2
        rw [sto_n _ _ _ (hz 0 (by decide)), sto_n _ _ _ (hz 6 (by decide)), sto_n _ _ _ (hz 5 (by decide)), sto_n _ _ _ (hz 4 (by decide)), sto_n _ _ _ (hz 3 (by decide))]
      rw [h2, h490, sto_at]
      by_cases hut : u = t
      · subst hut
        by_cases hqp : q = p
        · subst hqp
          simp
        · rw [if_neg (by omega), if_neg (by omega)]
          exact g13 q hq
      · have : ¬ ta K u + 2 = ta K t + 2 := fun e => hut ((cr_ly hR).2.1 u t hu' ht (by omega))
        rw [if_neg (fun e => this e.1), if_neg (by omega)]
        exact g13 q hq
    · have := g14 r hr
      unfold rooR at this ⊢
      rw [cnS_n (ap_tag (cm_T hR hu' hr) (ct_listA hR ht) (by decide)) (ap_rf hR hu' hr (by decide)) (ap_rf hR hu' hr (by decide)) (ap_rf hR hu' hr (by decide)) (ap_rf hR hu' hr (by decide)) (ap_rf hR hu' hr (by decide)), er 486 (by decide), er 487 (by decide), er 488 (by decide), er 489 (by decide)]
      exact this
  · exact im_sto hC.1 ni_0 (im_sto (coA_noteDay hC) ni_100 (im_sto (coA_noteRoom hC) ni_100 (im_sto (coA_notePerson hC) ni_100 (im_sto (coA_noteTown hC) ni_100 (im_sto (ct_listA hR ht) ni_100 im_rfl)))))
  · intro k hk
    rw [hnn] at hk
    have r3 : ∀ i, cnS K I t p (nn T) room (T 473 14) (T 473 26 + nI 1) 3 i = if i = nn T then nI t else I 3 i := by
      intro i
      show sto (sto I (ta K t + 2) p room) 3 (nn T) (nI t) 3 i = _
      rw [sto_at, sto_n _ _ _ (Ne.symm (hne 3 (by omega)))]
      simp
    have r4 : ∀ i, cnS K I t p (nn T) room (T 473 14) (T 473 26 + nI 1) 4 i = if i = nn T then nI p else I 4 i := by
      intro i
      show sto (sto (sto I (ta K t + 2) p room) 3 (nn T) (nI t)) 4 (nn T) (nI p) 4 i = _
      rw [sto_at, sto_n _ _ _ (by decide), sto_n _ _ _ (Ne.symm (hne 4 (by omega)))]
      simp
    have r5 : ∀ i, cnS K I t p (nn T) room (T 473 14) (T 473 26 + nI 1) 5 i = if i = nn T then room else I 5 i := by
      intro i
      show sto (sto (sto (sto I (ta K t + 2) p room) 3 (nn T) (nI t)) 4 (nn T) (nI p)) 5 (nn T) room 5 i = _
      rw [sto_at, sto_n _ _ _ (by decide), sto_n _ _ _ (by decide), sto_n _ _ _ (Ne.symm (hne 5 (by omega)))]
      simp
    have r6 : ∀ i, cnS K I t p (nn T) room (T 473 14) (T 473 26 + nI 1) 6 i = if i = nn T then T 473 14 else I 6 i := by
      intro i
      show sto (sto (sto (sto (sto I (ta K t + 2) p room) 3 (nn T) (nI t)) 4 (nn T) (nI p)) 5 (nn T) room) 6 (nn T) (T 473 14) 6 i = _
      rw [sto_at, sto_n _ _ _ (by decide), sto_n _ _ _ (by decide), sto_n _ _ _ (by decide), sto_n _ _ _ (Ne.symm (hne 6 (by omega)))]
      simp
    have s1 : ∀ i, noteS T t p room 491 i = if i = nn T then T 473 14 else T 491 i := by
      intro i
      show sto (sto T 490 (10 * t + p) room) 491 (nn T) (T 473 14) 491 i = _
      rw [sto_at, sto_n _ _ _ (by decide)]
      simp
    have s2 : ∀ i, noteS T t p room 492 i = if i = nn T then nI (10 * t + p) else T 492 i := by
      intro i
      show sto (sto (sto T 490 (10 * t + p) room) 491 (nn T) (T 473 14)) 492 (nn T) (nI (10 * t + p)) 492 i = _
      rw [sto_at, sto_n _ _ _ (by decide), sto_n _ _ _ (by decide)]
      simp
    have s3 : ∀ i, noteS T t p room 493 i = if i = nn T then room else T 493 i := by
      intro i
      show sto (sto (sto (sto T 490 (10 * t + p) room) 491 (nn T) (T 473 14)) 492 (nn T) (nI (10 * t + p))) 493 (nn T) room 493 i = _
      rw [sto_at, sto_n _ _ _ (by decide), sto_n _ _ _ (by decide), sto_n _ _ _ (by decide)]
      simp
    rw [r3, r4, r5, r6, s1, s2, s3]
    by_cases hk2 : k = nn T
    · rw [if_pos hk2, if_pos hk2, if_pos hk2, if_pos hk2, if_pos hk2, if_pos hk2, if_pos hk2]
      exact ⟨10 * t + p, by omega, rfl, by rw [show (10 * t + p) / 10 = t by omega], by rw [show (10 * t + p) % 10 = p by omega], rfl, rfl⟩
    · rw [if_neg hk2, if_neg hk2, if_neg hk2, if_neg hk2, if_neg hk2, if_neg hk2, if_neg hk2]
      exact cr_no hR k (by omega)
  · exact coTp_k (cr_tp hR) (hfx 7 (by decide) (by decide)) (by show nt _ = nt _; rw [e473 41 (by decide)]) (er 503 (by decide))
  · exact coBk_k (cr_bk hR) (fun a h1 h2 => hfx a (by omega) (by omega)) ⟨er 494 (by decide), er 495 (by decide), er 496 (by decide)⟩
  · refine coTr_k (cr_tr hR) (fun a h1 h2 => hfx a (by omega) (by omega)) (fun b hb => er b ?_)
    simp only [List.mem_cons, List.not_mem_nil, or_false] at hb
    omega
theorem fz_note (hR : CoR K S I T) {t p n : Nat} {room dy nm : Int32} (ht : t < tn T) : fzI I (cnS K I t p n room dy nm) := by
  have := ((cr_ly hR).2.2.2.2.1 t ht).1
  exact fz_sto (fz_sto (fz_sto (fz_sto (fz_sto (fz_sto fz_rfl (by omega)) (by omega)) (by omega)) (by omega)) (by omega)) (by omega)
end
section Co6
variable {w : Wd} {l : Launch} {K : Ly} {S : Sh} {I T : Mi} {J : Ml}
theorem kX1_note (hR : CoR K S I T) (hI : Tok T) {t p : Nat} {room : Int32} (ht : t < tn T) (hp : p < 10) (hn : nn T < 500) : Ct w l yX1_note cX1_note 4 none 1 0 0 [.ref 0, .int (nI t), .int (nI p), .int room] S I J (Qk none (noteS T t p room) K S I J) := by
  have hne := (ap_tf hR (a := 0) ht (by decide)).2
  have hQ := Qk_of (r := none) (J := J) (CoR_note hR hI (room := room) ht hp hn) (fz_note hR (p := p) (n := nn T) (room := room) (dy := T 473 14) (nm := T 473 26 + nI 1) ht)
  unfold cnS at hQ
  obtain ⟨M, hM⟩ : ∃ M, M = sto I (ta K t + 2) p room := ⟨_, rfl⟩
  have hm : ∀ {i : Nat} {v : Int32}, I 0 i = v → M 0 i = v := by
    intro i v h
    rw [hM, sto_n _ _ _ (Ne.symm hne)]
    exact h
  rw [← hM] at hQ
  refine Ct.of [some _, some _, some _, some _] rfl (Nat.le_of_ble_eq_true rfl) (by decide) ?_
  intro κ hκ C
  subst hκ
  have hC := cr_S hR
  have hp10 := tk_p2 hI
  have ht6 := tk_t2 hI
  have hg30 := tk_g2 hI
  have hc30 := tk_c2 hI
  have hn500 := tk_n2 hI
  refine x_aloadr_n C dX1_note_0 1 rfl rfl ?_
  refine x_getr C fl_X1_17 (Or.inr ⟨_, rfl⟩) dX1_note_1 4 rfl hC.1 (coR_towns hC) ?_
  refine x_iload_n C dX1_note_4 5 rfl rfl ?_
  refine x_aaldr (t := 5) C dX1_note_5 6 rfl (coA_towns hC) (by decide) (coN_towns hC) rfl (by omega) (by decide) (ct_elt hR ht) ?_
  refine x_getr C fl_X1_148 (Or.inr ⟨_, rfl⟩) dX1_note_6 9 rfl (ct_T hR ht) (ct_list hR ht) ?_
  refine x_iload_n C dX1_note_9 10 rfl rfl ?_
  refine x_iload_n C dX1_note_10 11 rfl rfl ?_
  refine x_iast C dX1_note_11 12 rfl (ct_listA hR ht) (ct_listN hR ht) rfl (by omega) (by decide) ?_
  rw [← hM]
  refine x_aloadr_n C dX1_note_12 13 rfl rfl ?_
  refine x_getr C fl_X1_28 (Or.inr ⟨_, rfl⟩) dX1_note_13 16 rfl hC.1 (coR_noteTown hC) ?_
  refine x_aloadr_n C dX1_note_16 17 rfl rfl ?_
  refine x_geti C fl_X1_151 (Or.inl rfl) dX1_note_17 20 rfl hC.1 (hm ((cs_noteMany hR).trans (tk_n hI))) ?_
  refine x_iload_n C dX1_note_20 21 rfl rfl ?_
  refine x_iast C dX1_note_21 22 rfl (coA_noteTown hC) (coN_noteTown hC) rfl (by omega) (by decide) ?_
  refine x_aloadr_n C dX1_note_22 23 rfl rfl ?_
  refine x_getr C fl_X1_32 (Or.inr ⟨_, rfl⟩) dX1_note_23 26 rfl hC.1 (coR_notePerson hC) ?_
  refine x_aloadr_n C dX1_note_26 27 rfl rfl ?_
  refine x_geti C fl_X1_151 (Or.inl rfl) dX1_note_27 30 rfl hC.1 (hm ((cs_noteMany hR).trans (tk_n hI))) ?_
  refine x_iload_n C dX1_note_30 31 rfl rfl ?_
  refine x_iast C dX1_note_31 32 rfl (coA_notePerson hC) (coN_notePerson hC) rfl (by omega) (by decide) ?_
  refine x_aloadr_n C dX1_note_32 33 rfl rfl ?_
  refine x_getr C fl_X1_35 (Or.inr ⟨_, rfl⟩) dX1_note_33 36 rfl hC.1 (coR_noteRoom hC) ?_
  refine x_aloadr_n C dX1_note_36 37 rfl rfl ?_
  refine x_geti C fl_X1_151 (Or.inl rfl) dX1_note_37 40 rfl hC.1 (hm ((cs_noteMany hR).trans (tk_n hI))) ?_
  refine x_iload_n C dX1_note_40 41 rfl rfl ?_
  refine x_iast C dX1_note_41 42 rfl (coA_noteRoom hC) (coN_noteRoom hC) rfl (by omega) (by decide) ?_
  refine x_aloadr_n C dX1_note_42 43 rfl rfl ?_
  refine x_getr C fl_X1_38 (Or.inr ⟨_, rfl⟩) dX1_note_43 46 rfl hC.1 (coR_noteDay hC) ?_
  refine x_aloadr_n C dX1_note_46 47 rfl rfl ?_
  refine x_geti C fl_X1_151 (Or.inl rfl) dX1_note_47 50 rfl hC.1 (hm ((cs_noteMany hR).trans (tk_n hI))) ?_
  refine x_aloadr_n C dX1_note_50 51 rfl rfl ?_
  refine x_geti C fl_X1_154 (Or.inl rfl) dX1_note_51 54 rfl hC.1 (hm (cs_day hR)) ?_
  refine x_iast C dX1_note_54 55 rfl (coA_noteDay hC) (coN_noteDay hC) rfl (by omega) (by decide) ?_
  refine x_aloadr_n C dX1_note_55 56 rfl rfl ?_
  refine x_dup C dX1_note_56 57 rfl rfl ?_
  refine x_geti C fl_X1_151 (Or.inl rfl) dX1_note_57 60 rfl hC.1 (hm (cs_noteMany hR)) ?_
  refine x_ic (j := 1) C dX1_note_60 61 rfl ?_
  refine x_iadd C dX1_note_61 62 rfl rfl ?_
  refine x_puti C fl_X1_151 (Or.inl rfl) (Or.inl rfl) dX1_note_62 65 rfl hC.1 ?_
  exact x_vret C dX1_note_65 (Nat.le_refl _) (Nat.le_refl _) hQ
end Co6
