set_option maxRecDepth 100000
section
variable {g : Gv} {κ : Kx} {E : String} {pc : Nat} {lv : List (Option Value)} {st : List Value} {L : List va_W} {kc ks : Nat}
theorem gx_pk {Lc Lr L2 : List va_W} (is : List Nat) (h : xt L is = (Lc, Lr)) (h2 : Lc = L2) (kk : Gx g κ E pc lv st L2 kc ks) : Gx g κ E pc lv st L kc ks := by
  obtain ⟨p, l, e, R, s, m, args, below, meth, c, A, mc, ms, Q⟩ := κ
  subst h2
  intro H locs cells slots ls q ce h1 h2 h3 h4
  exact kk H locs cells slots ls q ce h1 h2 h3 (h4.xt h).left
end
theorem ct_X1_there (g : Gv) (J : Jd g) {c : Prop} {dc : Decidable c} : Ct g yX1_there (ws_ yX1_there cX1_there 1 none) 8 1 6 [.int (nI (if c then 1 else 0))] [] (fun (rv_ : Option Value) (rL_ : List va_W) => rv_ = none ∧ rL_ = [] ∧ (c)) (fun (rE_ : String) (rL_ : List va_W) => rL_ = [] ∧ ((rE_ = "java/lang/IndexOutOfBoundsException" ∧ (¬ c)))) := by
  refine Ct.of "Keygrove" [some (.int (nI (if c then 1 else 0)))] rfl (by decide) rfl (Nat.le_of_ble_eq_true rfl) rfl ?_
  intro κ B E tb
  refine g_iload_n (q := 1) B dX1_there_0 rfl rfl ?_
  refine g_if_ne (tgt := 12) (q := 4) B dX1_there_1 rfl (by decide) (bo_ne) (fun c1 => ?_) (fun c1 => ?_)
  · skip
    exact g_vret B E dX1_there_12 (⟨rfl, rfl, by first | assumption | omega | rfl | simp_all⟩)
  · skip
    exact g_throw0 B E tb J (cls := "java/lang/IndexOutOfBoundsException") (names := ["java/lang/RuntimeException", "java/lang/Exception"]) (ik := 1) (ic := 3) (by unfold ThrowOk; decide +kernel) dX1_there_4 dX1_there_7 dX1_there_8 dX1_there_11 rfl (by decide) (by decide) (by decide) (by omega) (by omega) (⟨rfl, rfl, c1⟩)
theorem ct_X1_want (g : Gv) (J : Jd g) {c : Prop} {dc : Decidable c} : Ct g yX1_want (ws_ yX1_want cX1_want 1 none) 8 1 6 [.int (nI (if c then 1 else 0))] [] (fun (rv_ : Option Value) (rL_ : List va_W) => rv_ = none ∧ rL_ = [] ∧ (c)) (fun (rE_ : String) (rL_ : List va_W) => rL_ = [] ∧ ((rE_ = "java/lang/IllegalArgumentException" ∧ (¬ c)))) := by
  refine Ct.of "Keygrove" [some (.int (nI (if c then 1 else 0)))] rfl (by decide) rfl (Nat.le_of_ble_eq_true rfl) rfl ?_
  intro κ B E tb
  refine g_iload_n (q := 1) B dX1_want_0 rfl rfl ?_
  refine g_if_ne (tgt := 12) (q := 4) B dX1_want_1 rfl (by decide) (bo_ne) (fun c1 => ?_) (fun c1 => ?_)
  · skip
    exact g_vret B E dX1_want_12 (⟨rfl, rfl, by first | assumption | omega | rfl | simp_all⟩)
  · skip
    exact g_throw0 B E tb J (cls := "java/lang/IllegalArgumentException") (names := ["java/lang/RuntimeException", "java/lang/Exception"]) (ik := 7) (ic := 9) (by unfold ThrowOk; decide +kernel) dX1_want_4 dX1_want_7 dX1_want_8 dX1_want_11 rfl (by decide) (by decide) (by decide) (by omega) (by omega) (⟨rfl, rfl, c1⟩)
theorem ct_X1_can (g : Gv) (J : Jd g) {c : Prop} {dc : Decidable c} : Ct g yX1_can (ws_ yX1_can cX1_can 1 none) 8 1 6 [.int (nI (if c then 1 else 0))] [] (fun (rv_ : Option Value) (rL_ : List va_W) => rv_ = none ∧ rL_ = [] ∧ (c)) (fun (rE_ : String) (rL_ : List va_W) => rL_ = [] ∧ ((rE_ = "java/lang/UnsupportedOperationException" ∧ (¬ c)))) := by
  refine Ct.of "Keygrove" [some (.int (nI (if c then 1 else 0)))] rfl (by decide) rfl (Nat.le_of_ble_eq_true rfl) rfl ?_
  intro κ B E tb
  refine g_iload_n (q := 1) B dX1_can_0 rfl rfl ?_
  refine g_if_ne (tgt := 12) (q := 4) B dX1_can_1 rfl (by decide) (bo_ne) (fun c1 => ?_) (fun c1 => ?_)
  · skip
    exact g_vret B E dX1_can_12 (⟨rfl, rfl, by first | assumption | omega | rfl | simp_all⟩)
  · skip
    exact g_throw0 B E tb J (cls := "java/lang/UnsupportedOperationException") (names := ["java/lang/RuntimeException", "java/lang/Exception"]) (ik := 10) (ic := 12) (by unfold ThrowOk; decide +kernel) dX1_can_4 dX1_can_7 dX1_can_8 dX1_can_11 rfl (by decide) (by decide) (by decide) (by omega) (by omega) (⟨rfl, rfl, c1⟩)
theorem ct_X1_ready (g : Gv) (J : Jd g) {c : Prop} {dc : Decidable c} : Ct g yX1_ready (ws_ yX1_ready cX1_ready 1 none) 8 1 6 [.int (nI (if c then 1 else 0))] [] (fun (rv_ : Option Value) (rL_ : List va_W) => rv_ = none ∧ rL_ = [] ∧ (c)) (fun (rE_ : String) (rL_ : List va_W) => rL_ = [] ∧ ((rE_ = "java/lang/IllegalStateException" ∧ (¬ c)))) := by
  refine Ct.of "Keygrove" [some (.int (nI (if c then 1 else 0)))] rfl (by decide) rfl (Nat.le_of_ble_eq_true rfl) rfl ?_
  intro κ B E tb
  refine g_iload_n (q := 1) B dX1_ready_0 rfl rfl ?_
  refine g_if_ne (tgt := 12) (q := 4) B dX1_ready_1 rfl (by decide) (bo_ne) (fun c1 => ?_) (fun c1 => ?_)
  · skip
    exact g_vret B E dX1_ready_12 (⟨rfl, rfl, by first | assumption | omega | rfl | simp_all⟩)
  · skip
    exact g_throw0 B E tb J (cls := "java/lang/IllegalStateException") (names := ["java/lang/RuntimeException", "java/lang/Exception"]) (ik := 13) (ic := 15) (by unfold ThrowOk; decide +kernel) dX1_ready_4 dX1_ready_7 dX1_ready_8 dX1_ready_11 rfl (by decide) (by decide) (by decide) (by omega) (by omega) (⟨rfl, rfl, c1⟩)
theorem ct_X1_found_2 (g : Gv) (J : Jd g) {c : Prop} {dc : Decidable c} : Ct g yX1_found_2 (ws_ yX1_found_2 cX1_found_2 1 none) 8 1 6 [.int (nI (if c then 1 else 0))] [] (fun (rv_ : Option Value) (rL_ : List va_W) => rv_ = none ∧ rL_ = [] ∧ (c)) (fun (rE_ : String) (rL_ : List va_W) => rL_ = [] ∧ ((rE_ = "java/util/NoSuchElementException" ∧ (¬ c)))) := by
  refine Ct.of "Keygrove" [some (.int (nI (if c then 1 else 0)))] rfl (by decide) rfl (Nat.le_of_ble_eq_true rfl) rfl ?_
  intro κ B E tb
  refine g_iload_n (q := 1) B dX1_found_2_0 rfl rfl ?_
  refine g_if_ne (tgt := 12) (q := 4) B dX1_found_2_1 rfl (by decide) (bo_ne) (fun c1 => ?_) (fun c1 => ?_)
  · skip
    exact g_vret B E dX1_found_2_12 (⟨rfl, rfl, by first | assumption | omega | rfl | simp_all⟩)
  · skip
    exact g_throw0 B E tb J (cls := "java/util/NoSuchElementException") (names := ["java/lang/RuntimeException", "java/lang/Exception"]) (ik := 16) (ic := 18) (by unfold ThrowOk; decide +kernel) dX1_found_2_4 dX1_found_2_7 dX1_found_2_8 dX1_found_2_11 rfl (by decide) (by decide) (by decide) (by omega) (by omega) (⟨rfl, rfl, c1⟩)
