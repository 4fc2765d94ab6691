/-! switches, and more rows -/
section Sw
variable {w : Wd} {κ : Cx} {Z : State → Prop} {y : MethodName} {cc : ByteArray} {nL d mc ms : Nat} {rt : Option FieldType} {cs sl pc n : Nat} {L L' : List (Option Value)} {sk : List Value} {S : Sh} {I : Mi} {J : Ml}
theorem x_swG (C : Cok w y cc nL rt d mc ms κ) {x : Int32} {dflt hi : Int} {offs : Array Int} {len : Nat} (hd : decode cc pc = .ok (.tableswitch dflt 0 hi offs, len)) (ts : List Nat) (td : Nat) (hn : (ts.length : Int) = hi + 1 ∧ ts.length < 1000) (ht : offs.toList.map (fun o => (pc : Int) + o) = ts.map (fun t : Nat => (t : Int))) (hdf : (pc : Int) + dflt = (td : Int))
    (k : ∀ (j t : Nat), ts[j]? = some t → x = nI j → XX w κ Z cs sl t L sk S I J) (kd : (∀ j, j < ts.length → ¬ x = nI j) → XX w κ Z cs sl td L sk S I J) : XX w κ Z cs sl pc L (.int x :: sk) S I J := by
  by_cases h : x.toInt < 0 ∨ hi < x.toInt
  · refine x_tout C hd td h hdf (kd fun j hj e => ?_)
    subst e
    rw [nI_toInt (by omega)] at h
    omega
  · have h0 : ¬ x.toInt < 0 := fun q => h (Or.inl q)
    have h1 : ¬ hi < x.toInt := fun q => h (Or.inr q)
    obtain ⟨j, hj, rfl⟩ := nI_of (x := x) (fun q => h0 (by
      have := Int32.lt_iff_toInt_lt.mp q
      simpa using this))
    have ej : (nI j).toInt = (j : Int) := nI_toInt hj
    have hj2 : j < ts.length := by omega
    have hl : offs.size = ts.length := by
      have := congrArg List.length ht
      simpa using this
    have hjo : j < offs.size := by omega
    have e : (pc : Int) + offs[j] = (ts[j] : Int) := by
      have := congrArg (fun l : List Int => l[j]?) ht
      simp [hjo, hj2] at this
      exact this
    refine x_tin C hd ts[j] h0 h1 (off := offs[j]) ?_ e (k j ts[j] (List.getElem?_eq_getElem hj2) rfl)
    rw [ej]
    simp [hjo]
theorem x_sw3 (C : Cok w y cc nL rt d mc ms κ) {x : Int32} {dflt : Int} {offs : Array Int} {len : Nat} (hd : decode cc pc = .ok (.tableswitch dflt 0 2 offs, len)) (t0 t1 t2 td : Nat) (ht : offs.toList.map (fun o => (pc : Int) + o) = [t0, t1, t2].map (fun t : Nat => (t : Int))) (hdf : (pc : Int) + dflt = (td : Int)) (k0 : x = nI 0 → XX w κ Z cs sl t0 L sk S I J) (k1 : x = nI 1 → XX w κ Z cs sl t1 L sk S I J) (k2 : x = nI 2 → XX w κ Z cs sl t2 L sk S I J) (kd : ¬ x = nI 0 ∧ ¬ x = nI 1 ∧ ¬ x = nI 2 → XX w κ Z cs sl td L sk S I J) : XX w κ Z cs sl pc L (.int x :: sk) S I J := by
  refine x_swG C hd [t0, t1, t2] td (by simp only [List.length_cons, List.length_nil]; decide) ht hdf (fun j t hj hx => ?_) (fun h => kd ⟨h 0 (by simp only [List.length_cons, List.length_nil]; decide), h 1 (by simp only [List.length_cons, List.length_nil]; decide), h 2 (by simp only [List.length_cons, List.length_nil]; decide)⟩)
  match j, hj, hx with
  | 0, hj, hx => cases hj; exact k0 hx
  | 1, hj, hx => cases hj; exact k1 hx
  | 2, hj, hx => cases hj; exact k2 hx
  | j + 3, hj, hx => simp at hj
theorem x_sw4 (C : Cok w y cc nL rt d mc ms κ) {x : Int32} {dflt : Int} {offs : Array Int} {len : Nat} (hd : decode cc pc = .ok (.tableswitch dflt 0 3 offs, len)) (t0 t1 t2 t3 td : Nat) (ht : offs.toList.map (fun o => (pc : Int) + o) = [t0, t1, t2, t3].map (fun t : Nat => (t : Int))) (hdf : (pc : Int) + dflt = (td : Int)) (k0 : x = nI 0 → XX w κ Z cs sl t0 L sk S I J) (k1 : x = nI 1 → XX w κ Z cs sl t1 L sk S I J) (k2 : x = nI 2 → XX w κ Z cs sl t2 L sk S I J) (k3 : x = nI 3 → XX w κ Z cs sl t3 L sk S I J) (kd : ¬ x = nI 0 ∧ ¬ x = nI 1 ∧ ¬ x = nI 2 ∧ ¬ x = nI 3 → XX w κ Z cs sl td L sk S I J) : XX w κ Z cs sl pc L (.int x :: sk) S I J := by
  refine x_swG C hd [t0, t1, t2, t3] td (by simp only [List.length_cons, List.length_nil]; decide) ht hdf (fun j t hj hx => ?_) (fun h => kd ⟨h 0 (by simp only [List.length_cons, List.length_nil]; decide), h 1 (by simp only [List.length_cons, List.length_nil]; decide), h 2 (by simp only [List.length_cons, List.length_nil]; decide), h 3 (by simp only [List.length_cons, List.length_nil]; decide)⟩)
  match j, hj, hx with
  | 0, hj, hx => cases hj; exact k0 hx
  | 1, hj, hx => cases hj; exact k1 hx
  | 2, hj, hx => cases hj; exact k2 hx
  | 3, hj, hx => cases hj; exact k3 hx
  | j + 4, hj, hx => simp at hj
theorem x_sw5 (C : Cok w y cc nL rt d mc ms κ) {x : Int32} {dflt : Int} {offs : Array Int} {len : Nat} (hd : decode cc pc = .ok (.tableswitch dflt 0 4 offs, len)) (t0 t1 t2 t3 t4 td : Nat) (ht : offs.toList.map (fun o => (pc : Int) + o) = [t0, t1, t2, t3, t4].map (fun t : Nat => (t : Int))) (hdf : (pc : Int) + dflt = (td : Int)) (k0 : x = nI 0 → XX w κ Z cs sl t0 L sk S I J) (k1 : x = nI 1 → XX w κ Z cs sl t1 L sk S I J) (k2 : x = nI 2 → XX w κ Z cs sl t2 L sk S I J) (k3 : x = nI 3 → XX w κ Z cs sl t3 L sk S I J) (k4 : x = nI 4 → XX w κ Z cs sl t4 L sk S I J) (kd : ¬ x = nI 0 ∧ ¬ x = nI 1 ∧ ¬ x = nI 2 ∧ ¬ x = nI 3 ∧ ¬ x = nI 4 → XX w κ Z cs sl td L sk S I J) : XX w κ Z cs sl pc L (.int x :: sk) S I J := by
  refine x_swG C hd [t0, t1, t2, t3, t4] td (by simp only [List.length_cons, List.length_nil]; decide) ht hdf (fun j t hj hx => ?_) (fun h => kd ⟨h 0 (by simp only [List.length_cons, List.length_nil]; decide), h 1 (by simp only [List.length_cons, List.length_nil]; decide), h 2 (by simp only [List.length_cons, List.length_nil]; decide), h 3 (by simp only [List.length_cons, List.length_nil]; decide), h 4 (by simp only [List.length_cons, List.length_nil]; decide)⟩)
  match j, hj, hx with
  | 0, hj, hx => cases hj; exact k0 hx
  | 1, hj, hx => cases hj; exact k1 hx
  | 2, hj, hx => cases hj; exact k2 hx
  | 3, hj, hx => cases hj; exact k3 hx
  | 4, hj, hx => cases hj; exact k4 hx
  | j + 5, hj, hx => simp at hj
theorem x_sw9 (C : Cok w y cc nL rt d mc ms κ) {x : Int32} {dflt : Int} {offs : Array Int} {len : Nat} (hd : decode cc pc = .ok (.tableswitch dflt 0 8 offs, len)) (t0 t1 t2 t3 t4 t5 t6 t7 t8 td : Nat) (ht : offs.toList.map (fun o => (pc : Int) + o) = [t0, t1, t2, t3, t4, t5, t6, t7, t8].map (fun t : Nat => (t : Int))) (hdf : (pc : Int) + dflt = (td : Int)) (k0 : x = nI 0 → XX w κ Z cs sl t0 L sk S I J) (k1 : x = nI 1 → XX w κ Z cs sl t1 L sk S I J) (k2 : x = nI 2 → XX w κ Z cs sl t2 L sk S I J) (k3 : x = nI 3 → XX w κ Z cs sl t3 L sk S I J) (k4 : x = nI 4 → XX w κ Z cs sl t4 L sk S I J) (k5 : x = nI 5 → XX w κ Z cs sl t5 L sk S I J) (k6 : x = nI 6 → XX w κ Z cs sl t6 L sk S I J) (k7 : x = nI 7 → XX w κ Z cs sl t7 L sk S I J) (k8 : x = nI 8 → XX w κ Z cs sl t8 L sk S I J) (kd : ¬ x = nI 0 ∧ ¬ x = nI 1 ∧ ¬ x = nI 2 ∧ ¬ x = nI 3 ∧ ¬ x = nI 4 ∧ ¬ x = nI 5 ∧ ¬ x = nI 6 ∧ ¬ x = nI 7 ∧ ¬ x = nI 8 → XX w κ Z cs sl td L sk S I J) : XX w κ Z cs sl pc L (.int x :: sk) S I J := by
  refine x_swG C hd [t0, t1, t2, t3, t4, t5, t6, t7, t8] td (by simp only [List.length_cons, List.length_nil]; decide) ht hdf (fun j t hj hx => ?_) (fun h => kd ⟨h 0 (by simp only [List.length_cons, List.length_nil]; decide), h 1 (by simp only [List.length_cons, List.length_nil]; decide), h 2 (by simp only [List.length_cons, List.length_nil]; decide), h 3 (by simp only [List.length_cons, List.length_nil]; decide), h 4 (by simp only [List.length_cons, List.length_nil]; decide), h 5 (by simp only [List.length_cons, List.length_nil]; decide), h 6 (by simp only [List.length_cons, List.length_nil]; decide), h 7 (by simp only [List.length_cons, List.length_nil]; decide), h 8 (by simp only [List.length_cons, List.length_nil]; decide)⟩)
  match j, hj, hx with
  | 0, hj, hx => cases hj; exact k0 hx
  | 1, hj, hx => cases hj; exact k1 hx
  | 2, hj, hx => cases hj; exact k2 hx
  | 3, hj, hx => cases hj; exact k3 hx
  | 4, hj, hx => cases hj; exact k4 hx
  | 5, hj, hx => cases hj; exact k5 hx
  | 6, hj, hx => cases hj; exact k6 hx
  | 7, hj, hx => cases hj; exact k7 hx
  | 8, hj, hx => cases hj; exact k8 hx
  | j + 9, hj, hx => simp at hj
theorem x_sw11 (C : Cok w y cc nL rt d mc ms κ) {x : Int32} {dflt : Int} {offs : Array Int} {len : Nat} (hd : decode cc pc = .ok (.tableswitch dflt 0 10 offs, len)) (t0 t1 t2 t3 t4 t5 t6 t7 t8 t9 t10 td : Nat) (ht : offs.toList.map (fun o => (pc : Int) + o) = [t0, t1, t2, t3, t4, t5, t6, t7, t8, t9, t10].map (fun t : Nat => (t : Int))) (hdf : (pc : Int) + dflt = (td : Int)) (k0 : x = nI 0 → XX w κ Z cs sl t0 L sk S I J) (k1 : x = nI 1 → XX w κ Z cs sl t1 L sk S I J) (k2 : x = nI 2 → XX w κ Z cs sl t2 L sk S I J) (k3 : x = nI 3 → XX w κ Z cs sl t3 L sk S I J) (k4 : x = nI 4 → XX w κ Z cs sl t4 L sk S I J) (k5 : x = nI 5 → XX w κ Z cs sl t5 L sk S I J) (k6 : x = nI 6 → XX w κ Z cs sl t6 L sk S I J) (k7 : x = nI 7 → XX w κ Z cs sl t7 L sk S I J) (k8 : x = nI 8 → XX w κ Z cs sl t8 L sk S I J) (k9 : x = nI 9 → XX w κ Z cs sl t9 L sk S I J) (k10 : x = nI 10 → XX w κ Z cs sl t10 L sk S I J) (kd : ¬ x = nI 0 ∧ ¬ x = nI 1 ∧ ¬ x = nI 2 ∧ ¬ x = nI 3 ∧ ¬ x = nI 4 ∧ ¬ x = nI 5 ∧ ¬ x = nI 6 ∧ ¬ x = nI 7 ∧ ¬ x = nI 8 ∧ ¬ x = nI 9 ∧ ¬ x = nI 10 → XX w κ Z cs sl td L sk S I J) : XX w κ Z cs sl pc L (.int x :: sk) S I J := by
  refine x_swG C hd [t0, t1, t2, t3, t4, t5, t6, t7, t8, t9, t10] td (by simp only [List.length_cons, List.length_nil]; decide) ht hdf (fun j t hj hx => ?_) (fun h => kd ⟨h 0 (by simp only [List.length_cons, List.length_nil]; decide), h 1 (by simp only [List.length_cons, List.length_nil]; decide), h 2 (by simp only [List.length_cons, List.length_nil]; decide), h 3 (by simp only [List.length_cons, List.length_nil]; decide), h 4 (by simp only [List.length_cons, List.length_nil]; decide), h 5 (by simp only [List.length_cons, List.length_nil]; decide), h 6 (by simp only [List.length_cons, List.length_nil]; decide), h 7 (by simp only [List.length_cons, List.length_nil]; decide), h 8 (by simp only [List.length_cons, List.length_nil]; decide), h 9 (by simp only [List.length_cons, List.length_nil]; decide), h 10 (by simp only [List.length_cons, List.length_nil]; decide)⟩)
  match j, hj, hx with
  | 0, hj, hx => cases hj; exact k0 hx
  | 1, hj, hx => cases hj; exact k1 hx
  | 2, hj, hx => cases hj; exact k2 hx
  | 3, hj, hx => cases hj; exact k3 hx
  | 4, hj, hx => cases hj; exact k4 hx
  | 5, hj, hx => cases hj; exact k5 hx
  | 6, hj, hx => cases hj; exact k6 hx
  | 7, hj, hx => cases hj; exact k7 hx
  | 8, hj, hx => cases hj; exact k8 hx
  | 9, hj, hx => cases hj; exact k9 hx
  | 10, hj, hx => cases hj; exact k10 hx
  | j + 11, hj, hx => simp at hj
theorem x_sw38 (C : Cok w y cc nL rt d mc ms κ) {x : Int32} {dflt : Int} {offs : Array Int} {len : Nat} (hd : decode cc pc = .ok (.tableswitch dflt 0 37 offs, len)) (t0 t1 t2 t3 t4 t5 t6 t7 t8 t9 t10 t11 t12 t13 t14 t15 t16 t17 t18 t19 t20 t21 t22 t23 t24 t25 t26 t27 t28 t29 t30 t31 t32 t33 t34 t35 t36 t37 td : Nat) (ht : offs.toList.map (fun o => (pc : Int) + o) = [t0, t1, t2, t3, t4, t5, t6, t7, t8, t9, t10, t11, t12, t13, t14, t15, t16, t17, t18, t19, t20, t21, t22, t23, t24, t25, t26, t27, t28, t29, t30, t31, t32, t33, t34, t35, t36, t37].map (fun t : Nat => (t : Int))) (hdf : (pc : Int) + dflt = (td : Int)) (k0 : x = nI 0 → XX w κ Z cs sl t0 L sk S I J) (k1 : x = nI 1 → XX w κ Z cs sl t1 L sk S I J) (k2 : x = nI 2 → XX w κ Z cs sl t2 L sk S I J) (k3 : x = nI 3 → XX w κ Z cs sl t3 L sk S I J) (k4 : x = nI 4 → XX w κ Z cs sl t4 L sk S I J) (k5 : x = nI 5 → XX w κ Z cs sl t5 L sk S I J) (k6 : x = nI 6 → XX w κ Z cs sl t6 L sk S I J) (k7 : x = nI 7 → XX w κ Z cs sl t7 L sk S I J) (k8 : x = nI 8 → XX w κ Z cs sl t8 L sk S I J) (k9 : x = nI 9 → XX w κ Z cs sl t9 L sk S I J) (k10 : x = nI 10 → XX w κ Z cs sl t10 L sk S I J) (k11 : x = nI 11 → XX w κ Z cs sl t11 L sk S I J) (k12 : x = nI 12 → XX w κ Z cs sl t12 L sk S I J) (k13 : x = nI 13 → XX w κ Z cs sl t13 L sk S I J) (k14 : x = nI 14 → XX w κ Z cs sl t14 L sk S I J) (k15 : x = nI 15 → XX w κ Z cs sl t15 L sk S I J) (k16 : x = nI 16 → XX w κ Z cs sl t16 L sk S I J) (k17 : x = nI 17 → XX w κ Z cs sl t17 L sk S I J) (k18 : x = nI 18 → XX w κ Z cs sl t18 L sk S I J) (k19 : x = nI 19 → XX w κ Z cs sl t19 L sk S I J) (k20 : x = nI 20 → XX w κ Z cs sl t20 L sk S I J) (k21 : x = nI 21 → XX w κ Z cs sl t21 L sk S I J) (k22 : x = nI 22 → XX w κ Z cs sl t22 L sk S I J) (k23 : x = nI 23 → XX w κ Z cs sl t23 L sk S I J) (k24 : x = nI 24 → XX w κ Z cs sl t24 L sk S I J) (k25 : x = nI 25 → XX w κ Z cs sl t25 L sk S I J) (k26 : x = nI 26 → XX w κ Z cs sl t26 L sk S I J) (k27 : x = nI 27 → XX w κ Z cs sl t27 L sk S I J) (k28 : x = nI 28 → XX w κ Z cs sl t28 L sk S I J) (k29 : x = nI 29 → XX w κ Z cs sl t29 L sk S I J) (k30 : x = nI 30 → XX w κ Z cs sl t30 L sk S I J) (k31 : x = nI 31 → XX w κ Z cs sl t31 L sk S I J) (k32 : x = nI 32 → XX w κ Z cs sl t32 L sk S I J) (k33 : x = nI 33 → XX w κ Z cs sl t33 L sk S I J) (k34 : x = nI 34 → XX w κ Z cs sl t34 L sk S I J) (k35 : x = nI 35 → XX w κ Z cs sl t35 L sk S I J) (k36 : x = nI 36 → XX w κ Z cs sl t36 L sk S I J) (k37 : x = nI 37 → XX w κ Z cs sl t37 L sk S I J) (kd : ¬ x = nI 0 ∧ ¬ x = nI 1 ∧ ¬ x = nI 2 ∧ ¬ x = nI 3 ∧ ¬ x = nI 4 ∧ ¬ x = nI 5 ∧ ¬ x = nI 6 ∧ ¬ x = nI 7 ∧ ¬ x = nI 8 ∧ ¬ x = nI 9 ∧ ¬ x = nI 10 ∧ ¬ x = nI 11 ∧ ¬ x = nI 12 ∧ ¬ x = nI 13 ∧ ¬ x = nI 14 ∧ ¬ x = nI 15 ∧ ¬ x = nI 16 ∧ ¬ x = nI 17 ∧ ¬ x = nI 18 ∧ ¬ x = nI 19 ∧ ¬ x = nI 20 ∧ ¬ x = nI 21 ∧ ¬ x = nI 22 ∧ ¬ x = nI 23 ∧ ¬ x = nI 24 ∧ ¬ x = nI 25 ∧ ¬ x = nI 26 ∧ ¬ x = nI 27 ∧ ¬ x = nI 28 ∧ ¬ x = nI 29 ∧ ¬ x = nI 30 ∧ ¬ x = nI 31 ∧ ¬ x = nI 32 ∧ ¬ x = nI 33 ∧ ¬ x = nI 34 ∧ ¬ x = nI 35 ∧ ¬ x = nI 36 ∧ ¬ x = nI 37 → XX w κ Z cs sl td L sk S I J) : XX w κ Z cs sl pc L (.int x :: sk) S I J := by
  refine x_swG C hd [t0, t1, t2, t3, t4, t5, t6, t7, t8, t9, t10, t11, t12, t13, t14, t15, t16, t17, t18, t19, t20, t21, t22, t23, t24, t25, t26, t27, t28, t29, t30, t31, t32, t33, t34, t35, t36, t37] td (by simp only [List.length_cons, List.length_nil]; decide) ht hdf (fun j t hj hx => ?_) (fun h => kd ⟨h 0 (by simp only [List.length_cons, List.length_nil]; decide), h 1 (by simp only [List.length_cons, List.length_nil]; decide), h 2 (by simp only [List.length_cons, List.length_nil]; decide), h 3 (by simp only [List.length_cons, List.length_nil]; decide), h 4 (by simp only [List.length_cons, List.length_nil]; decide), h 5 (by simp only [List.length_cons, List.length_nil]; decide), h 6 (by simp only [List.length_cons, List.length_nil]; decide), h 7 (by simp only [List.length_cons, List.length_nil]; decide), h 8 (by simp only [List.length_cons, List.length_nil]; decide), h 9 (by simp only [List.length_cons, List.length_nil]; decide), h 10 (by simp only [List.length_cons, List.length_nil]; decide), h 11 (by simp only [List.length_cons, List.length_nil]; decide), h 12 (by simp only [List.length_cons, List.length_nil]; decide), h 13 (by simp only [List.length_cons, List.length_nil]; decide), h 14 (by simp only [List.length_cons, List.length_nil]; decide), h 15 (by simp only [List.length_cons, List.length_nil]; decide), h 16 (by simp only [List.length_cons, List.length_nil]; decide), h 17 (by simp only [List.length_cons, List.length_nil]; decide), h 18 (by simp only [List.length_cons, List.length_nil]; decide), h 19 (by simp only [List.length_cons, List.length_nil]; decide), h 20 (by simp only [List.length_cons, List.length_nil]; decide), h 21 (by simp only [List.length_cons, List.length_nil]; decide), h 22 (by simp only [List.length_cons, List.length_nil]; decide), h 23 (by simp only [List.length_cons, List.length_nil]; decide), h 24 (by simp only [List.length_cons, List.length_nil]; decide), h 25 (by simp only [List.length_cons, List.length_nil]; decide), h 26 (by simp only [List.length_cons, List.length_nil]; decide), h 27 (by simp only [List.length_cons, List.length_nil]; decide), h 28 (by simp only [List.length_cons, List.length_nil]; decide), h 29 (by simp only [List.length_cons, List.length_nil]; decide), h 30 (by simp only [List.length_cons, List.length_nil]; decide), h 31 (by simp only [List.length_cons, List.length_nil]; decide), h 32 (by simp only [List.length_cons, List.length_nil]; decide), h 33 (by simp only [List.length_cons, List.length_nil]; decide), h 34 (by simp only [List.length_cons, List.length_nil]; decide), h 35 (by simp only [List.length_cons, List.length_nil]; decide), h 36 (by simp only [List.length_cons, List.length_nil]; decide), h 37 (by simp only [List.length_cons, List.length_nil]; decide)⟩)
  match j, hj, hx with
  | 0, hj, hx => cases hj; exact k0 hx
  | 1, hj, hx => cases hj; exact k1 hx
  | 2, hj, hx => cases hj; exact k2 hx
  | 3, hj, hx => cases hj; exact k3 hx
  | 4, hj, hx => cases hj; exact k4 hx
  | 5, hj, hx => cases hj; exact k5 hx
  | 6, hj, hx => cases hj; exact k6 hx
  | 7, hj, hx => cases hj; exact k7 hx
  | 8, hj, hx => cases hj; exact k8 hx
  | 9, hj, hx => cases hj; exact k9 hx
  | 10, hj, hx => cases hj; exact k10 hx
  | 11, hj, hx => cases hj; exact k11 hx
  | 12, hj, hx => cases hj; exact k12 hx
  | 13, hj, hx => cases hj; exact k13 hx
  | 14, hj, hx => cases hj; exact k14 hx
  | 15, hj, hx => cases hj; exact k15 hx
  | 16, hj, hx => cases hj; exact k16 hx
  | 17, hj, hx => cases hj; exact k17 hx
  | 18, hj, hx => cases hj; exact k18 hx
  | 19, hj, hx => cases hj; exact k19 hx
  | 20, hj, hx => cases hj; exact k20 hx
  | 21, hj, hx => cases hj; exact k21 hx
  | 22, hj, hx => cases hj; exact k22 hx
  | 23, hj, hx => cases hj; exact k23 hx
  | 24, hj, hx => cases hj; exact k24 hx
  | 25, hj, hx => cases hj; exact k25 hx
  | 26, hj, hx => cases hj; exact k26 hx
  | 27, hj, hx => cases hj; exact k27 hx
  | 28, hj, hx => cases hj; exact k28 hx
  | 29, hj, hx => cases hj; exact k29 hx
  | 30, hj, hx => cases hj; exact k30 hx
  | 31, hj, hx => cases hj; exact k31 hx
  | 32, hj, hx => cases hj; exact k32 hx
  | 33, hj, hx => cases hj; exact k33 hx
  | 34, hj, hx => cases hj; exact k34 hx
  | 35, hj, hx => cases hj; exact k35 hx
  | 36, hj, hx => cases hj; exact k36 hx
  | 37, hj, hx => cases hj; exact k37 hx
  | j + 38, hj, hx => simp at hj
theorem x_jP {P : Prop} [Decidable P] {a b : Int32} {pT pF pj : Nat} {sk0 : List Value} (row : (P → XX w κ Z cs sl pT L sk S I J) → (¬ P → XX w κ Z cs sl pF L sk S I J) → XX w κ Z cs sl pc L sk0 S I J) (ht : XX w κ Z cs sl pj L (.int a :: sk) S I J → XX w κ Z cs sl pT L sk S I J) (hf : XX w κ Z cs sl pj L (.int b :: sk) S I J → XX w κ Z cs sl pF L sk S I J) (k : XX w κ Z cs sl pj L (.int (if P then a else b) :: sk) S I J) : XX w κ Z cs sl pc L sk0 S I J := by
  by_cases h : P
  · rw [if_pos h] at k
    exact row (fun _ => ht k) (fun q => absurd h q)
  · rw [if_neg h] at k
    exact row (fun q => absurd q h) (fun _ => hf k)
theorem x_jPN {P : Prop} [Decidable P] {a b : Nat} {pT pF pj : Nat} {sk0 : List Value} (row : (P → XX w κ Z cs sl pT L sk S I J) → (¬ P → XX w κ Z cs sl pF L sk S I J) → XX w κ Z cs sl pc L sk0 S I J) (ht : XX w κ Z cs sl pj L (.int (nI a) :: sk) S I J → XX w κ Z cs sl pT L sk S I J) (hf : XX w κ Z cs sl pj L (.int (nI b) :: sk) S I J → XX w κ Z cs sl pF L sk S I J) (k : XX w κ Z cs sl pj L (.int (nI (if P then a else b)) :: sk) S I J) : XX w κ Z cs sl pc L sk0 S I J := by
  by_cases h : P
  · rw [if_pos h] at k
    exact row (fun _ => ht k) (fun q => absurd h q)
  · rw [if_neg h] at k
    exact row (fun q => absurd q h) (fun _ => hf k)
theorem x_jPZ1 {P : Prop} [Decidable P]  {pT pF pj : Nat} {sk0 : List Value} (row : (P → XX w κ Z cs sl pT L sk S I J) → (¬ P → XX w κ Z cs sl pF L sk S I J) → XX w κ Z cs sl pc L sk0 S I J) (ht : XX w κ Z cs sl pj L (.int (nI 1) :: sk) S I J → XX w κ Z cs sl pT L sk S I J) (hf : XX w κ Z cs sl pj L (.int (nI 0) :: sk) S I J → XX w κ Z cs sl pF L sk S I J) (k : XX w κ Z cs sl pj L (.int (bz (decide P)) :: sk) S I J) : XX w κ Z cs sl pc L sk0 S I J := by
  by_cases h : P
  · rw [decide_eq_true h] at k
    exact row (fun _ => ht k) (fun q => absurd h q)
  · rw [decide_eq_false h] at k
    exact row (fun q => absurd q h) (fun _ => hf k)
theorem x_jPZ0 {P : Prop} [Decidable P]  {pT pF pj : Nat} {sk0 : List Value} (row : (P → XX w κ Z cs sl pT L sk S I J) → (¬ P → XX w κ Z cs sl pF L sk S I J) → XX w κ Z cs sl pc L sk0 S I J) (ht : XX w κ Z cs sl pj L (.int (nI 0) :: sk) S I J → XX w κ Z cs sl pT L sk S I J) (hf : XX w κ Z cs sl pj L (.int (nI 1) :: sk) S I J → XX w κ Z cs sl pF L sk S I J) (k : XX w κ Z cs sl pj L (.int (bz (!decide P)) :: sk) S I J) : XX w κ Z cs sl pc L sk0 S I J := by
  by_cases h : P
  · rw [decide_eq_true h] at k
    exact row (fun _ => ht k) (fun q => absurd h q)
  · rw [decide_eq_false h] at k
    exact row (fun q => absurd q h) (fun _ => hf k)
theorem x_jN {P : Prop} [Decidable P] {a b : Int32} {pT pF pj : Nat} {sk0 : List Value} (row : (¬ P → XX w κ Z cs sl pT L sk S I J) → (P → XX w κ Z cs sl pF L sk S I J) → XX w κ Z cs sl pc L sk0 S I J) (ht : XX w κ Z cs sl pj L (.int a :: sk) S I J → XX w κ Z cs sl pT L sk S I J) (hf : XX w κ Z cs sl pj L (.int b :: sk) S I J → XX w κ Z cs sl pF L sk S I J) (k : XX w κ Z cs sl pj L (.int (if P then b else a) :: sk) S I J) : XX w κ Z cs sl pc L sk0 S I J := by
  by_cases h : P
  · rw [if_pos h] at k
    exact row (fun q => absurd h q) (fun _ => hf k)
  · rw [if_neg h] at k
    exact row (fun _ => ht k) (fun q => absurd q h)
theorem x_jNN {P : Prop} [Decidable P] {a b : Nat} {pT pF pj : Nat} {sk0 : List Value} (row : (¬ P → XX w κ Z cs sl pT L sk S I J) → (P → XX w κ Z cs sl pF L sk S I J) → XX w κ Z cs sl pc L sk0 S I J) (ht : XX w κ Z cs sl pj L (.int (nI a) :: sk) S I J → XX w κ Z cs sl pT L sk S I J) (hf : XX w κ Z cs sl pj L (.int (nI b) :: sk) S I J → XX w κ Z cs sl pF L sk S I J) (k : XX w κ Z cs sl pj L (.int (nI (if P then b else a)) :: sk) S I J) : XX w κ Z cs sl pc L sk0 S I J := by
  by_cases h : P
  · rw [if_pos h] at k
    exact row (fun q => absurd h q) (fun _ => hf k)
  · rw [if_neg h] at k
    exact row (fun _ => ht k) (fun q => absurd q h)
theorem x_jNZ1 {P : Prop} [Decidable P]  {pT pF pj : Nat} {sk0 : List Value} (row : (¬ P → XX w κ Z cs sl pT L sk S I J) → (P → XX w κ Z cs sl pF L sk S I J) → XX w κ Z cs sl pc L sk0 S I J) (ht : XX w κ Z cs sl pj L (.int (nI 1) :: sk) S I J → XX w κ Z cs sl pT L sk S I J) (hf : XX w κ Z cs sl pj L (.int (nI 0) :: sk) S I J → XX w κ Z cs sl pF L sk S I J) (k : XX w κ Z cs sl pj L (.int (bz (!decide P)) :: sk) S I J) : XX w κ Z cs sl pc L sk0 S I J := by
  by_cases h : P
  · rw [decide_eq_true h] at k
    exact row (fun q => absurd h q) (fun _ => hf k)
  · rw [decide_eq_false h] at k
    exact row (fun _ => ht k) (fun q => absurd q h)
theorem x_jNZ0 {P : Prop} [Decidable P]  {pT pF pj : Nat} {sk0 : List Value} (row : (¬ P → XX w κ Z cs sl pT L sk S I J) → (P → XX w κ Z cs sl pF L sk S I J) → XX w κ Z cs sl pc L sk0 S I J) (ht : XX w κ Z cs sl pj L (.int (nI 0) :: sk) S I J → XX w κ Z cs sl pT L sk S I J) (hf : XX w κ Z cs sl pj L (.int (nI 1) :: sk) S I J → XX w κ Z cs sl pF L sk S I J) (k : XX w κ Z cs sl pj L (.int (bz (decide P)) :: sk) S I J) : XX w κ Z cs sl pc L sk0 S I J := by
  by_cases h : P
  · rw [decide_eq_true h] at k
    exact row (fun q => absurd h q) (fun _ => hf k)
  · rw [decide_eq_false h] at k
    exact row (fun _ => ht k) (fun q => absurd q h)
theorem x_jb {b : Bool} {pT pF pj : Nat} {sk0 : List Value} (row : (b = false → XX w κ Z cs sl pT L sk S I J) → (b = true → XX w κ Z cs sl pF L sk S I J) → XX w κ Z cs sl pc L sk0 S I J) (ht : XX w κ Z cs sl pj L (.int (nI 0) :: sk) S I J → XX w κ Z cs sl pT L sk S I J) (hf : XX w κ Z cs sl pj L (.int (nI 1) :: sk) S I J → XX w κ Z cs sl pF L sk S I J) (k : XX w κ Z cs sl pj L (.int (bz b) :: sk) S I J) : XX w κ Z cs sl pc L sk0 S I J := by
  cases b with
  | true => exact row (fun q => by cases q) (fun _ => hf k)
  | false => exact row (fun _ => ht k) (fun q => by cases q)
theorem x_ldcN (C : Cok w y cc nL rt d mc ms κ) {idx j : Nat} {v : Int32} (hd : decode cc pc = .ok (.ldc idx, 2)) (n : Nat) (hn : pc + 2 = n) (hq : Cond.constant y.cls idx v ∈ lw_all) (hv : v = nI j) (k : XX w κ Z cs sl n L (.int (nI j) :: sk) S I J) : XX w κ Z cs sl pc L sk S I J := by
  subst hv
  exact x_ldc C hd n hn hq k
end Sw
