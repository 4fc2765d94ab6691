/-! the component: what an update of any kind leaves -/
def sm (S : Sh) (I : Mi) (S' : Sh) (I' : Mi) (a : Nat) : Prop := S'.1 a = S.1 a ∧ S'.2.1 a = S.2.1 a ∧ S'.2.2.1 a = S.2.2.1 a ∧ I' a = I a
def fzS (S S' : Sh) : Prop := ∀ a, 473 ≤ a → a ≤ 519 → S'.1 a = S.1 a ∧ S'.2.1 a = S.2.1 a ∧ S'.2.2.1 a = S.2.2.1 a
def fzJ (J J' : Ml) : Prop := ∀ a, 473 ≤ a → a ≤ 519 → J' a = J a
/-- an answer, a heap that follows the twin's memory -/
def Qp (q : Int32 × Mi) (S : Sh) (I : Mi) (J : Ml) (c : Nat) : Option Value → Sh → Mi → Ml → Prop := fun r S' I' J' => r = some (.int q.1) ∧ (∃ K', CoR K' S' I' q.2) ∧ fzS S S' ∧ fzI I I' ∧ fzJ J J' ∧ S'.2.2.2 ≤ S.2.2.2 + c
theorem fzS_rfl {S : Sh} : fzS S S := fun _ _ _ => ⟨rfl, rfl, rfl⟩
theorem fzJ_rfl {J : Ml} : fzJ J J := fun _ _ _ => rfl
theorem Qp_of {q : Int32 × Mi} {K : Ly} {S : Sh} {I I' : Mi} {J : Ml} {c : Nat} {v : Int32} (hv : v = q.1) (h : CoR K S I' q.2) (hf : fzI I I') : Qp q S I J c (some (.int v)) S I' J := ⟨by rw [hv], ⟨K, h⟩, fzS_rfl, hf, fzJ_rfl, Nat.le_add_right _ _⟩
theorem Qp_n {q : Int32 × Mi} {K : Ly} {S : Sh} {I : Mi} {J : Ml} {c : Nat} {v : Int32} {T : Mi} (hR : CoR K S I T) (hq : q = (v, T)) : Qp q S I J c (some (.int v)) S I J := by
  subst hq
  exact Qp_of rfl hR fz_rfl
theorem Qp_s {q : Int32 × Mi} {K : Ly} {S : Sh} {I I' : Mi} {J : Ml} {c : Nat} {v : Int32} {T' : Mi} (hq : q = (v, T')) (hR : CoR K S I' T') (hf : fzI I I') : Qp q S I J c (some (.int v)) S I' J := by
  subst hq
  exact Qp_of rfl hR hf
theorem msk_ext {P Q : Nat → Bool} : ∀ {n : Nat}, (∀ q, q < n → P q = Q q) → msk P n = msk Q n
  | 0, _ => rfl
  | n + 1, h => by
    show msk P n ||| (if P n then 2 ^ n else 0) = msk Q n ||| (if Q n then 2 ^ n else 0)
    rw [msk_ext (fun q hq => h q (by omega)), h n (by omega)]
section
variable {K K' : Ly} {S S' : Sh} {I I' T T' : Mi}
theorem perR_g {p : Nat} (h : perR K S I T p) (hk : pa K' p = pa K p) (hf : frR K' T' p = frR K T p) (h1 : S'.2.2.1 1 p = S.2.2.1 1 p) (ha : sm S I S' I' (pa K p)) (ht : ∀ b, b ∈ [474, 475, 476, 477, 478, 479, 480, 497] → T' b p = T b p) (hb : ∀ q, q < 10 → T' 482 (10 * p + q) = T 482 (10 * p + q)) : perR K' S' I' T' p := by
  have hbm : bmN T' p = bmN T p := by
    unfold bmN
    exact msk_ext (fun q hq => by rw [hb q hq])
  unfold perR at h ⊢
  obtain ⟨a1, a2, a3, a4⟩ := ha
  rw [hk, hf, h1, a1, a3, a4, hbm, ht 474 (by decide), ht 475 (by decide), ht 476 (by decide), ht 477 (by decide), ht 478 (by decide), ht 479 (by decide), ht 480 (by decide), ht 497 (by decide)]
  exact h
theorem towR_g {t : Nat} (h : towR K S I T t) (hk : ta K' t = ta K t ∧ ca K' t = ca K t ∧ ∀ r, r < rn T t → ra K' t r = ra K t r) (h2 : S'.2.2.1 2 t = S.2.2.1 2 t) (ha : sm S I S' I' (ta K t) ∧ sm S I S' I' (ta K t + 1) ∧ sm S I S' I' (ta K t + 2)) (hr : ∀ r, r < rn T t → sm S I S' I' (ra K t r)) (ht : ∀ b, b ∈ [483, 484, 485] → T' b t = T b t) (hl : ∀ p, p < 10 → T' 490 (10 * t + p) = T 490 (10 * t + p)) (ho : ∀ b r, b ∈ [486, 487, 488, 489] → r < rn T t → T' b (10 * t + r) = T b (10 * t + r)) : towR K' S' I' T' t := by
  have hrn : rn T' t = rn T t := by show nt _ = nt _; rw [ht 485 (by decide)]
  obtain ⟨⟨a1, a2, a3, a4⟩, ⟨b1, b2, b3, b4⟩, c1, c2, c3, c4⟩ := ha
  obtain ⟨g1, g2, g3, g4, g5, g6, g7, g8, g9, g10, g11, g12, g13, g14⟩ := h
  unfold towR
  rw [hk.1, hk.2.1, h2, a1, a3, a4, b1, b2, c1, c2, c4, ht 483 (by decide), ht 484 (by decide), ht 485 (by decide), hrn]
  refine ⟨g1, g2, g3, g4, g5, g6, g7, g8, g9, g10, g11, g12, fun p hp => by rw [hl p hp]; exact g13 p hp, fun r hrr => ?_⟩
  have := g14 r hrr
  unfold rooR at this ⊢
  obtain ⟨d1, d2, d3, d4⟩ := hr r hrr
  rw [hk.1, hk.2.2 r hrr, b3, d1, d4, ho 486 r (by decide) hrr, ho 487 r (by decide) hrr, ho 488 r (by decide) hrr, ho 489 r (by decide) hrr]
  exact this
theorem cntR_g {t : Nat} (h : cntR K S I T t) (hk : ca K' t = ca K t) (him : imq S I S' I') (hru : rulesOf T' t = rulesOf T t) (h506 : T' 506 t = T 506 t) : cntR K' S' I' T' t := by
  unfold cntR
  rw [hk, hru, h506]
  exact ⟨h.1.keep him, h.2⟩
theorem coS_g (h : coS S) (hs : ∀ a, a < 473 → S'.1 a = S.1 a ∧ S'.2.1 a = S.2.1 a ∧ (a ≠ 1 → a ≠ 2 → S'.2.2.1 a = S.2.2.1 a)) : coS S' := by
  obtain ⟨h0, h1, h2, h3, h4, h5, h6, h7⟩ := h
  have r := fun (a : Nat) (q : a < 473) => (hs a q).1
  have n := fun (a : Nat) (q : a < 473) => (hs a q).2.1
  have f := fun (a : Nat) (q : a < 473) => (hs a q).2.2
  refine ⟨by rw [r 0 (by decide)]; exact h0, fun q hq => ?_, fun i hi => ?_, fun i hi => ?_, fun i hi => ?_, fun i hi => ?_, fun i j hi hj => ?_, fun i hi => ?_⟩
  · have hb : q.2.1 < 473 := by
      have : ∀ q ∈ coT, q.2.1 < 473 := by decide
      exact this q hq
    rw [f 0 (by decide) (by decide) (by decide), r _ hb, n _ hb]
    exact h1 q hq
  · rw [f 9 (by decide) (by decide) (by decide), r _ (by omega), n _ (by omega)]
    exact h2 i hi
  · rw [f 40 (by decide) (by decide) (by decide), r _ (by omega), n _ (by omega)]
    exact h3 i hi
  · rw [f 72 (by decide) (by decide) (by decide), r _ (by omega), n _ (by omega)]
    exact h4 i hi
  · rw [f 85 (by decide) (by decide) (by decide), r _ (by omega), n _ (by omega)]
    exact h5 i hi
  · rw [f (86 + 12 * i) (by omega) (by omega) (by omega), r _ (by omega), n _ (by omega)]
    exact h6 i j hi hj
  · rw [f 461 (by decide) (by decide) (by decide), r _ (by omega), n _ (by omega)]
    exact h7 i hi
/-- numbers of the desk alone -/
theorem CoR_sc (h : CoR K S I T) (hi : ∀ a, a ≠ 0 → I' a = I a) (ht : ∀ b, b ≠ 473 → T' b = T b) (hsc : coSc I' T') (h1 : T' 473 1 = T 473 1) (h11 : T' 473 11 = T 473 11) (h26 : T' 473 26 = T 473 26) (h41 : T' 473 41 = T 473 41) : CoR K S I' T' := by
  have hC := cr_S h
  refine CoR_mem h hsc (by show nt _ = nt _; rw [h1]) (by show nt _ = nt _; rw [h11]) (fun t _ => by show nt _ = nt _; rw [ht 485 (by decide)]) (fun p hp => perR_k (cr_pe h hp) (hi _ (ap_pf h hp (by decide))) (fun b hb => ht b ?_)) (fun t htt => towR_k (cr_to h htt) (hi _ (ap_tf h htt (by decide)).1) (hi _ (ap_tf h htt (by decide)).2) (fun r hr => hi _ (ap_rf h htt hr (by decide))) (fun b hb => ht b ?_)) (fun a ha => hi a (fun e => ?_)) ⟨ht _ (by decide), ht _ (by decide)⟩ (ht _ (by decide)) (coNo_k (cr_no h) ⟨hi _ (by decide), hi _ (by decide), hi _ (by decide), hi _ (by decide)⟩ (by show nt _ = nt _; rw [h26]) ⟨ht _ (by decide), ht _ (by decide), ht _ (by decide)⟩) (coTp_k (cr_tp h) (hi _ (by decide)) (by show nt _ = nt _; rw [h41]) (ht _ (by decide))) (coBk_k (cr_bk h) (fun a q1 q2 => hi a (by omega)) ⟨ht _ (by decide), ht _ (by decide), ht _ (by decide)⟩) (coTr_k (cr_tr h) (fun a q1 q2 => hi a (by omega)) (fun b hb => ht b ?_))
  · simp only [List.mem_cons, List.not_mem_nil, or_false] at hb
    omega
  · simp only [List.mem_cons, List.not_mem_nil, or_false] at hb
    omega
  · subst e
    rw [hC.1] at ha
    exact ni_0 ha
  · simp only [List.mem_cons, List.not_mem_nil, or_false] at hb
    omega
/-- people alone -/
theorem CoR_pp (h : CoR K S I T) (hs : S'.1 = S.1 ∧ S'.2.1 = S.2.1 ∧ S'.2.2.2 = S.2.2.2) (hr : ∀ a, a < 520 ∨ ¬ S.1 a = 3 → S'.2.2.1 a = S.2.2.1 a ∧ I' a = I a) (ht : ∀ b, b ∉ [474, 475, 476, 477, 478, 479, 480, 481, 482, 497] → T' b = T b) (hpe : ∀ p, p < pn T → perR K S' I' T' p) : CoR K S' I' T' := by
  have hsm : ∀ a, a < 520 ∨ ¬ S.1 a = 3 → sm S I S' I' a := fun a q => ⟨by rw [hs.1], by rw [hs.2.1], (hr a q).1, (hr a q).2⟩
  have hn : ∀ {a k : Nat}, S.1 a = k → ¬ k = 3 → sm S I S' I' a := fun q1 q2 => hsm _ (Or.inr (by rw [q1]; exact q2))
  have e473 := ht 473 (by decide)
  have hfx : ∀ a, a < 520 → I' a = I a := fun a q => (hr a (Or.inl q)).2
  refine ⟨coS_g (cr_S h) (fun a q => ⟨by rw [hs.1], by rw [hs.2.1], fun _ _ => (hr a (Or.inl (by omega))).1⟩), ?_, ?_, ?_, ?_, ?_, ?_, ?_, ?_, ?_⟩
  · have := h.2.1
    unfold coSc at this ⊢
    rw [hfx 0 (by decide), e473]
    exact this
  · show ∀ p, p < nt (T' 473 1) → _
    rw [e473]
    exact hpe
  · show ∀ t, t < nt (T' 473 11) → _
    rw [e473]
    intro t htt
    refine towR_g (cr_to h htt) ⟨rfl, rfl, fun _ _ => rfl⟩ (by rw [(hr 2 (Or.inl (by decide))).1]) ⟨hn (ct_T h htt) (by decide), hn (ct_roomsA h htt) (by decide), hn (ct_listA h htt) (by decide)⟩ (fun r hrr => hn (cm_T h htt hrr) (by decide)) (fun b hb => congrFun (ht b (by simp only [List.mem_cons, List.not_mem_nil, or_false] at hb ⊢; omega)) _) (fun p hp => by rw [ht 490 (by decide)]) (fun b r hb hrr => congrFun (ht b (by simp only [List.mem_cons, List.not_mem_nil, or_false] at hb ⊢; omega)) _)
  · show ∀ t, t < nt (T' 473 11) → _
    rw [e473]
    intro t htt
    exact cntR_g (cr_ct h htt) rfl (fun a ha => hsm a (Or.inr (fun e => by rw [e] at ha; exact ni_3 ha))) (rulesOf_k ⟨ht 504 (by decide), ht 505 (by decide)⟩ t) (by rw [ht 506 (by decide)])
  · exact coNo_k (cr_no h) ⟨hfx 3 (by decide), hfx 4 (by decide), hfx 5 (by decide), hfx 6 (by decide)⟩ (by show nt _ = nt _; rw [e473]) ⟨ht _ (by decide), ht _ (by decide), ht _ (by decide)⟩
  · exact coTp_k (cr_tp h) (hfx 7 (by decide)) (by show nt _ = nt _; rw [e473]) (ht _ (by decide))
  · exact coBk_k (cr_bk h) (fun a q1 q2 => hfx a (by omega)) ⟨ht _ (by decide), ht _ (by decide), ht _ (by decide)⟩
  · refine coTr_k (cr_tr h) (fun a q1 q2 => hfx a (by omega)) (fun b hb => ht b ?_)
    simp only [List.mem_cons, List.not_mem_nil, or_false] at hb ⊢
    omega
  · exact layR_k (cr_ly h) (by show nt _ = nt _; rw [e473]) (by show nt _ = nt _; rw [e473]) (fun t _ => by show nt _ = nt _; rw [ht 485 (by decide)]) (by rw [hs.2.2]; exact Nat.le_refl _)
end
