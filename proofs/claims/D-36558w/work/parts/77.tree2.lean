set_option maxRecDepth 100000
theorem p1_gt {d : Nat} (h : 1 < 2 ^ d) : 0 < d := by
  rcases Nat.eq_zero_or_pos d with z | z
  · rw [z] at h; exact absurd h (by decide)
  · exact z
theorem p1_le {d : Nat} (h : ¬ 1 < 2 ^ d) : d = 0 := by
  rcases Nat.eq_zero_or_pos d with z | z
  · exact z
  · have h1 := pw_h z
    have h2 := Nat.two_pow_pos (d - 1)
    omega
theorem hlv_0 {T : TrS} (h : T.1 = 0) : hlv T = T := hlvF_n (fun q => by omega)
theorem moX10_nodes : Mo yX10_nodes 0 := by
  refine ⟨by decide, by decide, by decide +kernel⟩
theorem ct_X10_halves (g : Gv) (J : Jd g) {t : Nat} {T : TrS} {w0 : va_W} (hw0 : TreeP g t T w0) : Ct g yX10_halves (ws_ yX10_halves cX10_halves 4 none) 2 0 0 [.ref t] [w0] (fun (rv_ : Option Value) (rL_ : List va_W) => ∃ (u0 : va_W), rv_ = none ∧ rL_ = [u0] ∧ TreeP g t (hlv T) u0) noX := by
  refine Ct.of "Keygrove$Tree" [some (.ref t), none, none, none] rfl (by decide) rfl (Nat.le_of_ble_eq_true rfl) rfl ?_
  intro κ B E tb
  have hB := TreeP.b hw0
  have hp2 := p2_4 hB.1
  have hd4 := hB.1
  refine g_aload_n (q := 1) B dX10_halves_0 rfl rfl (rv_r _) ?_
  obtain ⟨as_1, al_1, ap_1, fs_1, fl_1, fp_1, hB_1, hfs_1, hfl_1, hfp_1, hc_1_0, hc_1_1, hc_1_2, hc_1_3⟩ := TreeP.at (Sub.self hw0)
  refine g_getM (q := 4) B (ci := 5) (k := 0) (j := 0) in_X10 rfl dX10_halves_1 rfl rfl (hc_1_0) (Nat.le_of_ble_eq_true rfl) q2035 rfl rfl ?_
  refine g_iconst (v := nI 1) (q := 5) B dX10_halves_4 rfl (by decide) ?_
  refine g_icmp_le (Pp := ¬ 1 < 2 ^ T.1) (tgt := 12) (q := 8) B dX10_halves_5 rfl (by decide) (by rw [nI_leI (by omega) (by omega)]; omega) (fun c5 => ?_) (fun c5 => ?_)
  · skip
    refine g_iconst (v := nI 0) (q := 13) B dX10_halves_12 rfl (by decide) ?_
    refine g_istore_n (q := 14) (lv2 := [some (.ref t), some (.int (nI 0)), none, none]) B dX10_halves_13 rfl (Nat.le_of_ble_eq_true rfl) rfl ?_
    have lp14 : ∀ (n14 : Nat) (go : Bool) (T1 : TrS) (l14_0 : va_W), TreeP g t T1 l14_0 → (if go = true then 0 < T1.1 ∧ hlv T1 = hlv T else T1 = hlv T) → T1.1 + (if go = true then 1 else 0) = n14 → Go g κ 14 [some (.ref t), some (.int (nI (if go = true then 1 else 0))), none, none] [] [l14_0] 0 0 := by
      intro n14
      induction n14 using Nat.strongRecOn with
      | _ n14 ih14 =>
      intro go T1 l14_0 hl14_0 hgo hmu14
      refine g_iload_n (q := 15) B dX10_halves_14 rfl rfl ?_
      refine g_if_eq (tgt := 122) (q := 18) B dX10_halves_15 rfl (by decide) (bo_eq) (fun c15 => ?_) (fun c15 => ?_)
      · skip
        have hr_2 : TreeP g t (hlv T) l14_0 := by rw [if_neg (by simpa using c15)] at hgo; rw [← hgo]; exact hl14_0
        exact g_vret B E dX10_halves_122 (⟨l14_0, rfl, rfl, hr_2⟩)
      · skip
        have hg1 : go = true := by simpa using c15
        rw [if_pos hg1] at hgo
        have hgo2 := hgo
        have hB1 := TreeP.b hl14_0
        have hp3 := p2_4 hB1.1
        have hd5 := hB1.1
        have hph := pw_h hgo2.1
        have hpp := Nat.two_pow_pos (T1.1 - 1)
        refine g_iconst (v := nI 1) (q := 19) B dX10_halves_18 rfl (by decide) ?_
        refine g_istore_n (q := 20) (lv2 := [some (.ref t), some (.int (nI (if go = true then 1 else 0))), some (.int (nI 1)), none]) B dX10_halves_19 rfl (Nat.le_of_ble_eq_true rfl) rfl ?_
        refine g_aload_n (q := 21) B dX10_halves_20 rfl rfl (rv_r _) ?_
        obtain ⟨as_3, al_3, ap_3, fs_3, fl_3, fp_3, hB_3, hfs_3, hfl_3, hfp_3, hc_3_0, hc_3_1, hc_3_2, hc_3_3⟩ := TreeP.at (Sub.self hl14_0)
        refine g_getM (q := 24) B (ci := 5) (k := 0) (j := 0) in_X10 rfl dX10_halves_21 rfl rfl (hc_3_0) (Nat.le_of_ble_eq_true rfl) q2035 rfl rfl ?_
        refine g_iconst (v := nI 2) (q := 25) B dX10_halves_24 rfl (by decide) ?_
        refine g_idiv (v := nI (2 ^ T1.1 / 2)) (q := 26) B dX10_halves_25 rfl (by decide) (dv2_I _ (by omega)) ?_
        refine g_istore_n (q := 27) (lv2 := [some (.ref t), some (.int (nI (if go = true then 1 else 0))), some (.int (nI 1)), some (.int (nI (2 ^ T1.1 / 2)))]) B dX10_halves_26 rfl (Nat.le_of_ble_eq_true rfl) rfl ?_
        have lp27 : ∀ (n27 : Nat) (j : Nat) (b : Bool) , (j ≤ 2 ^ (T1.1 - 1)) → (b = bare T1.2.2.2 T1.1 j) → 2 ^ (T1.1 - 1) - j = n27 → Go g κ 27 [some (.ref t), some (.int (nI (if go = true then 1 else 0))), some (.int (nI (if b = true then 1 else 0))), some (.int (nI (2 ^ T1.1 / 2 + j)))] [] [l14_0] 0 0 := by
          intro n27
          induction n27 using Nat.strongRecOn with
          | _ n27 ih27 =>
          intro j b  hj hb hmu27
          refine g_iload_n (q := 28) B dX10_halves_27 rfl rfl ?_
          refine g_aload_n (q := 29) B dX10_halves_28 rfl rfl (rv_r _) ?_
          refine g_getM (q := 32) B (ci := 5) (k := 0) (j := 0) in_X10 rfl dX10_halves_29 rfl rfl (hc_3_0) (Nat.le_of_ble_eq_true rfl) q2035 rfl rfl ?_
          refine g_icmp_ge (tgt := 61) (q := 35) B dX10_halves_32 rfl (by decide) (nI_leI (by omega) (by omega)) (fun c32 => ?_) (fun c32 => ?_)
          · skip
            refine g_iload_n (q := 62) B dX10_halves_61 rfl rfl ?_
            refine g_if_eq (tgt := 101) (q := 65) B dX10_halves_62 rfl (by decide) (bo_eq) (fun c62 => ?_) (fun c62 => ?_)
            · skip
              have hbf : bare T1.2.2.2 T1.1 (2 ^ (T1.1 - 1)) = false := by rw [show 2 ^ (T1.1 - 1) = j by omega, ← hb]; simpa using c62
              refine g_iload_n (q := 102) B dX10_halves_101 rfl rfl ?_
              refine g_if_eq (tgt := 117) (q := 105) B dX10_halves_102 rfl (by decide) (iff_true_intro (bo_eq.mpr c62)) (fun _ => ?_) (fun z => absurd trivial z)
              refine g_iconst (v := nI 0) (q := 118) B dX10_halves_117 rfl (by decide) ?_
              refine g_istore_n (q := 119) (lv2 := [some (.ref t), some (.int (nI 0)), some (.int (nI (if b = true then 1 else 0))), some (.int (nI (2 ^ T1.1 / 2 + j)))]) B dX10_halves_118 rfl (Nat.le_of_ble_eq_true rfl) rfl ?_
              refine g_goto (tgt := 14) B dX10_halves_119 (by decide) ?_
              refine g_fg 2 rfl ?_
              refine g_fg 3 rfl ?_
              exact ih14 _ (by rw [← hmu14, if_pos hg1]; have hz9 := hgo2.1; first | (rw [if_pos rfl]; show T1.1 - 1 + 1 < T1.1 + 1; omega) | (rw [if_neg (by decide)]; show T1.1 - 1 + 0 < T1.1 + 1; omega) | (rw [if_neg (by decide)]; show T1.1 + 0 < T1.1 + 1; omega)) false T1 l14_0 hl14_0 (by rw [if_neg (by decide), ← hgo2.2]; exact (hlvF_n (fun q => by rw [q.2] at hbf; cases hbf)).symm) rfl
            · skip
              have hbt : bare T1.2.2.2 T1.1 (2 ^ (T1.1 - 1)) = true := by rw [show 2 ^ (T1.1 - 1) = j by omega, ← hb]; simpa using c62
              refine g_aload_n (q := 66) B dX10_halves_65 rfl rfl (rv_r _) ?_
              refine g_getM (q := 69) B (ci := 5) (k := 0) (j := 0) in_X10 rfl dX10_halves_66 rfl rfl (hc_3_0) (Nat.le_of_ble_eq_true rfl) q2035 rfl rfl ?_
              refine g_iconst (v := nI 1) (q := 70) B dX10_halves_69 rfl (by decide) ?_
              refine g_isub (v := nI (2 ^ T1.1 - 1)) (q := 71) B dX10_halves_70 rfl (pk_sub (by omega)) ?_
              refine g_istore_n (q := 72) (lv2 := [some (.ref t), some (.int (nI (if go = true then 1 else 0))), some (.int (nI (if b = true then 1 else 0))), some (.int (nI (2 ^ T1.1 - 1)))]) B dX10_halves_71 rfl (Nat.le_of_ble_eq_true rfl) rfl ?_
              have lp72 : ∀ (n72 : Nat) (i : Nat) (l72_0 : va_W), TreeP g t (blkF T1 (inK T1.1 i)) l72_0 → (i ≤ 2 ^ T1.1) → 2 ^ T1.1 - i = n72 → Go g κ 72 [some (.ref t), some (.int (nI (if go = true then 1 else 0))), some (.int (nI (if b = true then 1 else 0))), some (.int (nI (2 ^ T1.1 - 1 + i)))] [] [l72_0] 0 0 := by
                intro n72
                induction n72 using Nat.strongRecOn with
                | _ n72 ih72 =>
                intro i l72_0 hl72_0 hi hmu72
                refine g_iload_n (q := 73) B dX10_halves_72 rfl rfl ?_
                refine g_aload_n (q := 74) B dX10_halves_73 rfl rfl (rv_r _) ?_
                refine g_callV (q := 77) (is := [0]) (kc2 := 0) (ks2 := 0) B [] (ct_X10_nodes g J (t := t) (T := (blkF T1 (inK T1.1 i))) hl72_0 ) dX10_halves_74 rfl (rc_in B (ci := 5) rfl (k := 0) rfl (TreeP.hm hl72_0)) rfl q2544 q1141 q1142 q123 q1143 rfl rfl moX10_nodes rfl rfl (by decide) (by decide) (Nat.le_of_ble_eq_true rfl) (Nat.le_of_ble_eq_true rfl) (Nat.le_of_ble_eq_true rfl) (fun _ _ hx => noX_x hx) (fun v74 L1 hp74 => ?_)
                obtain ⟨rfl, rfl⟩ := hp74
                refine (show Go g κ 77 [some (.ref t), some (.int (nI (if go = true then 1 else 0))), some (.int (nI (if b = true then 1 else 0))), some (.int (nI (2 ^ T1.1 - 1 + i)))] [.int (nI (2 * 2 ^ (blkF T1 (inK T1.1 i)).1 - 1)), .int (nI (2 ^ T1.1 - 1 + i))] [l72_0] 0 0 from ?_)
                refine (show Go g κ 77 [some (.ref t), some (.int (nI (if go = true then 1 else 0))), some (.int (nI (if b = true then 1 else 0))), some (.int (nI (2 ^ T1.1 - 1 + i)))] [.int (nI (2 * 2 ^ T1.1 - 1)), .int (nI (2 ^ T1.1 - 1 + i))] [l72_0] 0 0 from ?_)
                refine g_icmp_ge (tgt := 91) (q := 80) B dX10_halves_77 rfl (by decide) (nI_leI (by omega) (by omega)) (fun c77 => ?_) (fun c77 => ?_)
                · skip
                  have hr_4 : TreeP g t (blkF T1 (inH T1.1)) l72_0 := by rw [← inK_e (by omega), show 2 ^ T1.1 = i by omega]; have z := hl72_0; rw [show i = 2 ^ T1.1 by omega] at z ⊢; exact z
                  obtain ⟨as_h, al_h, ap_h, fs_h, fl_h, fp_h, hB_h, hfs_h, hfl_h, hfp_h, rfl⟩ := hr_4
                  refine g_open 0 rfl rfl rfl ?_
                  refine (show Go g κ 91 [some (.ref t), some (.int (nI (if go = true then 1 else 0))), some (.int (nI (if b = true then 1 else 0))), some (.int (nI (2 ^ T1.1 - 1 + i)))] [] [[(t, .inr (5, [.int (nI (2 ^ (blkF T1 (inH T1.1)).1)), .ref as_h, .ref al_h, .ref ap_h]))], [(as_h, .inl (g.2.1 0, 31, .inl fs_h))], [(al_h, .inl (g.2.1 0, 31, .inl fl_h))], [(ap_h, .inl (g.2.1 0, 16, .inl fp_h))]] 0 0 from ?_)
                  refine g_aload_n (q := 92) B dX10_halves_91 rfl rfl (rv_r _) ?_
                  refine g_dup (q := 93) B dX10_halves_92 rfl rfl ?_
                  refine g_get (q := 96) B (ci := 5) (k := 0) (j := 0) in_X10 rfl dX10_halves_93 rfl rfl (Nat.le_of_ble_eq_true rfl) q2035 rfl rfl ?_
                  refine g_iconst (v := nI 2) (q := 97) B dX10_halves_96 rfl (by decide) ?_
                  refine (show Go g κ 97 [some (.ref t), some (.int (nI (if go = true then 1 else 0))), some (.int (nI (if b = true then 1 else 0))), some (.int (nI (2 ^ T1.1 - 1 + i)))] [.int (nI 2), .int (nI (2 ^ T1.1)), .ref t] [[(t, .inr (5, [.int (nI (2 ^ (blkF T1 (inH T1.1)).1)), .ref as_h, .ref al_h, .ref ap_h]))], [(as_h, .inl (g.2.1 0, 31, .inl fs_h))], [(al_h, .inl (g.2.1 0, 31, .inl fl_h))], [(ap_h, .inl (g.2.1 0, 16, .inl fp_h))]] 0 0 from ?_)
                  refine g_idiv (v := nI (2 ^ (T1.1 - 1))) (q := 98) B dX10_halves_97 rfl (by decide) (by rw [dv2_I _ (by omega)]; congr 1; omega) ?_
                  refine g_put (q := 101) (L2 := [[(t, .inr (5, [.int (nI (2 ^ (T1.1 - 1))), .ref as_h, .ref al_h, .ref ap_h]))], [(as_h, .inl (g.2.1 0, 31, .inl fs_h))], [(al_h, .inl (g.2.1 0, 31, .inl fl_h))], [(ap_h, .inl (g.2.1 0, 16, .inl fp_h))]]) B (ci := 5) (k := 0) (j := 0) in_X10 tyX10 tyX10_ok nmX10 rfl dX10_halves_98 rfl rfl (Nat.le_of_ble_eq_true rfl) q2035 rfl rfl rfl rfl (Nat.le_of_ble_eq_true rfl) rfl ?_
                  obtain ⟨wc_5, ewc_5⟩ : ∃ w : va_W, w = ([[(t, .inr (5, [.int (nI (2 ^ (T1.1 - 1))), .ref as_h, .ref al_h, .ref ap_h]))], [(as_h, .inl (g.2.1 0, 31, .inl fs_h))], [(al_h, .inl (g.2.1 0, 31, .inl fl_h))], [(ap_h, .inl (g.2.1 0, 16, .inl fp_h))]] : List va_W).flatten := ⟨_, rfl⟩
                  have hwc_5 : TreeP g t (halfT T1) wc_5 := by
                    rw [ewc_5]
                    exact ⟨as_h, al_h, ap_h, fs_h, fl_h, fp_h, (TrB.d hB_h (T1.1 - 1) (by omega)), hfs_h, hfl_h, hfp_h, rfl⟩
                  refine g_close (w := wc_5) [0, 0, 0, 0] rfl ewc_5 rfl ?_
                  refine (show Go g κ 101 [some (.ref t), some (.int (nI (if go = true then 1 else 0))), some (.int (nI (if b = true then 1 else 0))), some (.int (nI (2 ^ T1.1 - 1 + i)))] [] [wc_5] 0 0 from ?_)
                  refine g_iload_n (q := 102) B dX10_halves_101 rfl rfl ?_
                  refine g_if_eq (tgt := 117) (q := 105) B dX10_halves_102 rfl (by decide) (iff_false_intro (fun z => c62 (bo_eq.mp z))) (fun z => z.elim) (fun _ => ?_)
                  refine g_aload_n (q := 106) B dX10_halves_105 rfl rfl (rv_r _) ?_
                  obtain ⟨as_6, al_6, ap_6, fs_6, fl_6, fp_6, hB_6, hfs_6, hfl_6, hfp_6, hc_6_0, hc_6_1, hc_6_2, hc_6_3⟩ := TreeP.at (Sub.self hwc_5)
                  refine g_getM (q := 109) B (ci := 5) (k := 0) (j := 0) in_X10 rfl dX10_halves_106 rfl rfl (hc_6_0) (Nat.le_of_ble_eq_true rfl) q2035 rfl rfl ?_
                  refine g_iconst (v := nI 1) (q := 110) B dX10_halves_109 rfl (by decide) ?_
                  refine g_icmp_le (Pp := ¬ 1 < 2 ^ (halfT T1).1) (tgt := 117) (q := 113) B dX10_halves_110 rfl (by decide) (by rw [nI_leI (by have := p2_4 (d := (halfT T1).1) (by show T1.1 - 1 ≤ 4; omega); omega) (by omega)]; omega) (fun c110 => ?_) (fun c110 => ?_)
                  · skip
                    refine g_iconst (v := nI 0) (q := 118) B dX10_halves_117 rfl (by decide) ?_
                    refine g_istore_n (q := 119) (lv2 := [some (.ref t), some (.int (nI 0)), some (.int (nI (if b = true then 1 else 0))), some (.int (nI (2 ^ T1.1 - 1 + i)))]) B dX10_halves_118 rfl (Nat.le_of_ble_eq_true rfl) rfl ?_
                    refine g_goto (tgt := 14) B dX10_halves_119 (by decide) ?_
                    refine g_fg 2 rfl ?_
                    refine g_fg 3 rfl ?_
                    exact ih14 _ (by rw [← hmu14, if_pos hg1]; have hz9 := hgo2.1; first | (rw [if_pos rfl]; show T1.1 - 1 + 1 < T1.1 + 1; omega) | (rw [if_neg (by decide)]; show T1.1 - 1 + 0 < T1.1 + 1; omega) | (rw [if_neg (by decide)]; show T1.1 + 0 < T1.1 + 1; omega)) false (halfT T1) wc_5 hwc_5 (by rw [if_neg (by decide), ← hgo2.2, hlvF_y hgo2.1 hbt]; exact (hlv_0 (p1_le (d := (halfT T1).1) c110)).symm) rfl
                  · skip
                    refine g_iconst (v := nI 1) (q := 114) B dX10_halves_113 rfl (by decide) ?_
                    refine g_goto (tgt := 118) B dX10_halves_114 (by decide) ?_
                    refine g_istore_n (q := 119) (lv2 := [some (.ref t), some (.int (nI 1)), some (.int (nI (if b = true then 1 else 0))), some (.int (nI (2 ^ T1.1 - 1 + i)))]) B dX10_halves_118 rfl (Nat.le_of_ble_eq_true rfl) rfl ?_
                    refine g_goto (tgt := 14) B dX10_halves_119 (by decide) ?_
                    refine g_fg 2 rfl ?_
                    refine g_fg 3 rfl ?_
                    exact ih14 _ (by rw [← hmu14, if_pos hg1]; have hz9 := hgo2.1; first | (rw [if_pos rfl]; show T1.1 - 1 + 1 < T1.1 + 1; omega) | (rw [if_neg (by decide)]; show T1.1 - 1 + 0 < T1.1 + 1; omega) | (rw [if_neg (by decide)]; show T1.1 + 0 < T1.1 + 1; omega)) true (halfT T1) wc_5 hwc_5 (by rw [if_pos rfl]; exact ⟨p1_gt (d := (halfT T1).1) (Classical.not_not.mp c110), by rw [← hgo2.2]; exact (hlvF_y hgo2.1 hbt).symm⟩) rfl
                · skip
                  refine g_aload_n (q := 81) B dX10_halves_80 rfl rfl (rv_r _) ?_
                  refine g_iload_n (q := 82) B dX10_halves_81 rfl rfl ?_
                  refine g_callV (q := 85) (is := [0]) (kc2 := 0) (ks2 := 0) B [.int (nI (2 ^ T1.1 - 1 + i))] (ct_X10_blanks g J (t := t) (T := (blkF T1 (inK T1.1 i))) (n := 2 ^ T1.1 - 1 + i) hl72_0 (by first | assumption | omega | rfl)) dX10_halves_82 rfl (rc_in B (ci := 5) rfl (k := 0) rfl (TreeP.hm hl72_0)) rfl q2521 q2523 qs33 q123 q2524 rfl rfl moX10_blanks rfl rfl (by decide) (by decide) (Nat.le_of_ble_eq_true rfl) (Nat.le_of_ble_eq_true rfl) (Nat.le_of_ble_eq_true rfl) (fun _ _ hx => noX_x hx) (fun v82 L1 hp82 => ?_)
                  obtain ⟨u0_82, rfl, rfl, hu0_82⟩ := hp82
                  refine (show Go g κ 85 [some (.ref t), some (.int (nI (if go = true then 1 else 0))), some (.int (nI (if b = true then 1 else 0))), some (.int (nI (2 ^ T1.1 - 1 + i)))] [] [u0_82] 0 0 from ?_)
                  refine g_iinc (v := nI ((2 ^ T1.1 - 1 + i) + 1)) (q := 88) (lv2 := [some (.ref t), some (.int (nI (if go = true then 1 else 0))), some (.int (nI (if b = true then 1 else 0))), some (.int (nI ((2 ^ T1.1 - 1 + i) + 1)))]) B dX10_halves_85 rfl rfl (nI_add _ 1) (Nat.le_of_ble_eq_true rfl) rfl ?_
                  refine g_goto (tgt := 72) B dX10_halves_88 (by decide) ?_
                  have hr_7 : TreeP g t (blkF T1 (inK T1.1 (i + 1))) u0_82 := by rw [← blkF_s T1 (inK_s T1.1 i)]; exact hu0_82
                  exact ih72 _ (by omega) (i + 1) u0_82 hr_7 (by first | assumption | omega | rfl) rfl
              have hr_8 : TreeP g t (blkF T1 (inK T1.1 0)) l14_0 := by rw [blkF_0 T1 (inK_0 T1.1)]; exact hl14_0
              exact lp72 _ 0 l14_0 hr_8 (Nat.zero_le _) rfl
          · skip
            refine g_iload_n (q := 36) B dX10_halves_35 rfl rfl ?_
            refine g_if_eq (tgt := 53) (q := 39) B dX10_halves_36 rfl (by decide) (bo_eq) (fun c36 => ?_) (fun c36 => ?_)
            · skip
              refine g_iconst (v := nI 0) (q := 54) B dX10_halves_53 rfl (by decide) ?_
              refine g_istore_n (q := 55) (lv2 := [some (.ref t), some (.int (nI (if go = true then 1 else 0))), some (.int (nI 0)), some (.int (nI (2 ^ T1.1 / 2 + j)))]) B dX10_halves_54 rfl (Nat.le_of_ble_eq_true rfl) rfl ?_
              refine g_iinc (v := nI ((2 ^ T1.1 / 2 + j) + 1)) (q := 58) (lv2 := [some (.ref t), some (.int (nI (if go = true then 1 else 0))), some (.int (nI 0)), some (.int (nI ((2 ^ T1.1 / 2 + j) + 1)))]) B dX10_halves_55 rfl rfl (nI_add _ 1) (Nat.le_of_ble_eq_true rfl) rfl ?_
              refine g_goto (tgt := 27) B dX10_halves_58 (by decide) ?_
              exact ih27 _ (by omega) (j + 1) false (by omega) (by rw [bare_s, ← hb, show b = false by simpa using c36]; rfl) rfl
            · skip
              refine g_aload_n (q := 40) B dX10_halves_39 rfl rfl (rv_r _) ?_
              refine g_getM (q := 43) B (ci := 5) (k := 0) (j := 3) in_X10 rfl dX10_halves_40 rfl rfl (hc_3_0) (Nat.le_of_ble_eq_true rfl) q2043 rfl rfl ?_
              refine g_iload_n (q := 44) B dX10_halves_43 rfl rfl ?_
              refine g_ialdM (v := oI (T1.2.2.2 (2 ^ T1.1 / 2 + j))) (q := 45) B (k := 0) dX10_halves_44 rfl rfl (hc_3_3) (vp_in_nI (by omega) (by omega)) (by rw [nI_clamp (by omega)]; exact hfp_3 _ (by omega)) ?_
              refine g_iconst (v := -1) (q := 46) B dX10_halves_45 rfl (by decide) ?_
              refine g_icmp_ne (tgt := 53) (q := 49) B dX10_halves_46 rfl (by decide) (oI_nn ((fun n h => by have := hB_3.2.2.2 _ _ h; omega))) (fun c46 => ?_) (fun c46 => ?_)
              · skip
                obtain ⟨v46, ev46⟩ := Option.ne_none_iff_exists'.mp c46
                refine g_iconst (v := nI 0) (q := 54) B dX10_halves_53 rfl (by decide) ?_
                refine g_istore_n (q := 55) (lv2 := [some (.ref t), some (.int (nI (if go = true then 1 else 0))), some (.int (nI 0)), some (.int (nI (2 ^ T1.1 / 2 + j)))]) B dX10_halves_54 rfl (Nat.le_of_ble_eq_true rfl) rfl ?_
                refine g_iinc (v := nI ((2 ^ T1.1 / 2 + j) + 1)) (q := 58) (lv2 := [some (.ref t), some (.int (nI (if go = true then 1 else 0))), some (.int (nI 0)), some (.int (nI ((2 ^ T1.1 / 2 + j) + 1)))]) B dX10_halves_55 rfl rfl (nI_add _ 1) (Nat.le_of_ble_eq_true rfl) rfl ?_
                refine g_goto (tgt := 27) B dX10_halves_58 (by decide) ?_
                exact ih27 _ (by omega) (j + 1) false (by omega) (by rw [bare_s, show 2 ^ (T1.1 - 1) + j = 2 ^ T1.1 / 2 + j by omega]; cases e9 : T1.2.2.2 (2 ^ T1.1 / 2 + j) with
                  | none => exact absurd e9 c46
                  | some x => simp) rfl
              · skip
                have c46 := Classical.not_not.mp c46
                refine g_iconst (v := nI 1) (q := 50) B dX10_halves_49 rfl (by decide) ?_
                refine g_goto (tgt := 54) B dX10_halves_50 (by decide) ?_
                refine g_istore_n (q := 55) (lv2 := [some (.ref t), some (.int (nI (if go = true then 1 else 0))), some (.int (nI 1)), some (.int (nI (2 ^ T1.1 / 2 + j)))]) B dX10_halves_54 rfl (Nat.le_of_ble_eq_true rfl) rfl ?_
                refine g_iinc (v := nI ((2 ^ T1.1 / 2 + j) + 1)) (q := 58) (lv2 := [some (.ref t), some (.int (nI (if go = true then 1 else 0))), some (.int (nI 1)), some (.int (nI ((2 ^ T1.1 / 2 + j) + 1)))]) B dX10_halves_55 rfl rfl (nI_add _ 1) (Nat.le_of_ble_eq_true rfl) rfl ?_
                refine g_goto (tgt := 27) B dX10_halves_58 (by decide) ?_
                exact ih27 _ (by omega) (j + 1) true (by omega) (by rw [bare_s, ← hb, show b = true by simpa using c36, show 2 ^ (T1.1 - 1) + j = 2 ^ T1.1 / 2 + j by omega, c46]; rfl) rfl
        exact lp27 _ 0 true (Nat.zero_le _) (rfl) rfl
    exact lp14 _ false T w0 hw0 (by rw [if_neg (by decide)]; exact (hlv_0 (p1_le c5)).symm) rfl
  · skip
    refine g_iconst (v := nI 1) (q := 9) B dX10_halves_8 rfl (by decide) ?_
    refine g_goto (tgt := 13) B dX10_halves_9 (by decide) ?_
    refine g_istore_n (q := 14) (lv2 := [some (.ref t), some (.int (nI 1)), none, none]) B dX10_halves_13 rfl (Nat.le_of_ble_eq_true rfl) rfl ?_
    have lp14 : ∀ (n14 : Nat) (go : Bool) (T1 : TrS) (l14_0 : va_W), TreeP g t T1 l14_0 → (if go = true then 0 < T1.1 ∧ hlv T1 = hlv T else T1 = hlv T) → T1.1 + (if go = true then 1 else 0) = n14 → Go g κ 14 [some (.ref t), some (.int (nI (if go = true then 1 else 0))), none, none] [] [l14_0] 0 0 := by
      intro n14
      induction n14 using Nat.strongRecOn with
      | _ n14 ih14 =>
      intro go T1 l14_0 hl14_0 hgo hmu14
      refine g_iload_n (q := 15) B dX10_halves_14 rfl rfl ?_
      refine g_if_eq (tgt := 122) (q := 18) B dX10_halves_15 rfl (by decide) (bo_eq) (fun c15 => ?_) (fun c15 => ?_)
      · skip
        have hr_9 : TreeP g t (hlv T) l14_0 := by rw [if_neg (by simpa using c15)] at hgo; rw [← hgo]; exact hl14_0
        exact g_vret B E dX10_halves_122 (⟨l14_0, rfl, rfl, hr_9⟩)
      · skip
        have hg1 : go = true := by simpa using c15
        rw [if_pos hg1] at hgo
        have hgo2 := hgo
        have hB1 := TreeP.b hl14_0
        have hp3 := p2_4 hB1.1
        have hd5 := hB1.1
        have hph := pw_h hgo2.1
        have hpp := Nat.two_pow_pos (T1.1 - 1)
        refine g_iconst (v := nI 1) (q := 19) B dX10_halves_18 rfl (by decide) ?_
        refine g_istore_n (q := 20) (lv2 := [some (.ref t), some (.int (nI (if go = true then 1 else 0))), some (.int (nI 1)), none]) B dX10_halves_19 rfl (Nat.le_of_ble_eq_true rfl) rfl ?_
        refine g_aload_n (q := 21) B dX10_halves_20 rfl rfl (rv_r _) ?_
        obtain ⟨as_10, al_10, ap_10, fs_10, fl_10, fp_10, hB_10, hfs_10, hfl_10, hfp_10, hc_10_0, hc_10_1, hc_10_2, hc_10_3⟩ := TreeP.at (Sub.self hl14_0)
        refine g_getM (q := 24) B (ci := 5) (k := 0) (j := 0) in_X10 rfl dX10_halves_21 rfl rfl (hc_10_0) (Nat.le_of_ble_eq_true rfl) q2035 rfl rfl ?_
        refine g_iconst (v := nI 2) (q := 25) B dX10_halves_24 rfl (by decide) ?_
        refine g_idiv (v := nI (2 ^ T1.1 / 2)) (q := 26) B dX10_halves_25 rfl (by decide) (dv2_I _ (by omega)) ?_
        refine g_istore_n (q := 27) (lv2 := [some (.ref t), some (.int (nI (if go = true then 1 else 0))), some (.int (nI 1)), some (.int (nI (2 ^ T1.1 / 2)))]) B dX10_halves_26 rfl (Nat.le_of_ble_eq_true rfl) rfl ?_
        have lp27 : ∀ (n27 : Nat) (j : Nat) (b : Bool) , (j ≤ 2 ^ (T1.1 - 1)) → (b = bare T1.2.2.2 T1.1 j) → 2 ^ (T1.1 - 1) - j = n27 → Go g κ 27 [some (.ref t), some (.int (nI (if go = true then 1 else 0))), some (.int (nI (if b = true then 1 else 0))), some (.int (nI (2 ^ T1.1 / 2 + j)))] [] [l14_0] 0 0 := by
          intro n27
          induction n27 using Nat.strongRecOn with
          | _ n27 ih27 =>
          intro j b  hj hb hmu27
          refine g_iload_n (q := 28) B dX10_halves_27 rfl rfl ?_
          refine g_aload_n (q := 29) B dX10_halves_28 rfl rfl (rv_r _) ?_
          refine g_getM (q := 32) B (ci := 5) (k := 0) (j := 0) in_X10 rfl dX10_halves_29 rfl rfl (hc_10_0) (Nat.le_of_ble_eq_true rfl) q2035 rfl rfl ?_
          refine g_icmp_ge (tgt := 61) (q := 35) B dX10_halves_32 rfl (by decide) (nI_leI (by omega) (by omega)) (fun c32 => ?_) (fun c32 => ?_)
          · skip
            refine g_iload_n (q := 62) B dX10_halves_61 rfl rfl ?_
            refine g_if_eq (tgt := 101) (q := 65) B dX10_halves_62 rfl (by decide) (bo_eq) (fun c62 => ?_) (fun c62 => ?_)
            · skip
              have hbf : bare T1.2.2.2 T1.1 (2 ^ (T1.1 - 1)) = false := by rw [show 2 ^ (T1.1 - 1) = j by omega, ← hb]; simpa using c62
              refine g_iload_n (q := 102) B dX10_halves_101 rfl rfl ?_
              refine g_if_eq (tgt := 117) (q := 105) B dX10_halves_102 rfl (by decide) (iff_true_intro (bo_eq.mpr c62)) (fun _ => ?_) (fun z => absurd trivial z)
              refine g_iconst (v := nI 0) (q := 118) B dX10_halves_117 rfl (by decide) ?_
              refine g_istore_n (q := 119) (lv2 := [some (.ref t), some (.int (nI 0)), some (.int (nI (if b = true then 1 else 0))), some (.int (nI (2 ^ T1.1 / 2 + j)))]) B dX10_halves_118 rfl (Nat.le_of_ble_eq_true rfl) rfl ?_
              refine g_goto (tgt := 14) B dX10_halves_119 (by decide) ?_
              refine g_fg 2 rfl ?_
              refine g_fg 3 rfl ?_
              exact ih14 _ (by rw [← hmu14, if_pos hg1]; have hz9 := hgo2.1; first | (rw [if_pos rfl]; show T1.1 - 1 + 1 < T1.1 + 1; omega) | (rw [if_neg (by decide)]; show T1.1 - 1 + 0 < T1.1 + 1; omega) | (rw [if_neg (by decide)]; show T1.1 + 0 < T1.1 + 1; omega)) false T1 l14_0 hl14_0 (by rw [if_neg (by decide), ← hgo2.2]; exact (hlvF_n (fun q => by rw [q.2] at hbf; cases hbf)).symm) rfl
            · skip
              have hbt : bare T1.2.2.2 T1.1 (2 ^ (T1.1 - 1)) = true := by rw [show 2 ^ (T1.1 - 1) = j by omega, ← hb]; simpa using c62
              refine g_aload_n (q := 66) B dX10_halves_65 rfl rfl (rv_r _) ?_
              refine g_getM (q := 69) B (ci := 5) (k := 0) (j := 0) in_X10 rfl dX10_halves_66 rfl rfl (hc_10_0) (Nat.le_of_ble_eq_true rfl) q2035 rfl rfl ?_
              refine g_iconst (v := nI 1) (q := 70) B dX10_halves_69 rfl (by decide) ?_
              refine g_isub (v := nI (2 ^ T1.1 - 1)) (q := 71) B dX10_halves_70 rfl (pk_sub (by omega)) ?_
              refine g_istore_n (q := 72) (lv2 := [some (.ref t), some (.int (nI (if go = true then 1 else 0))), some (.int (nI (if b = true then 1 else 0))), some (.int (nI (2 ^ T1.1 - 1)))]) B dX10_halves_71 rfl (Nat.le_of_ble_eq_true rfl) rfl ?_
              have lp72 : ∀ (n72 : Nat) (i : Nat) (l72_0 : va_W), TreeP g t (blkF T1 (inK T1.1 i)) l72_0 → (i ≤ 2 ^ T1.1) → 2 ^ T1.1 - i = n72 → Go g κ 72 [some (.ref t), some (.int (nI (if go = true then 1 else 0))), some (.int (nI (if b = true then 1 else 0))), some (.int (nI (2 ^ T1.1 - 1 + i)))] [] [l72_0] 0 0 := by
                intro n72
                induction n72 using Nat.strongRecOn with
                | _ n72 ih72 =>
                intro i l72_0 hl72_0 hi hmu72
                refine g_iload_n (q := 73) B dX10_halves_72 rfl rfl ?_
                refine g_aload_n (q := 74) B dX10_halves_73 rfl rfl (rv_r _) ?_
                refine g_callV (q := 77) (is := [0]) (kc2 := 0) (ks2 := 0) B [] (ct_X10_nodes g J (t := t) (T := (blkF T1 (inK T1.1 i))) hl72_0 ) dX10_halves_74 rfl (rc_in B (ci := 5) rfl (k := 0) rfl (TreeP.hm hl72_0)) rfl q2544 q1141 q1142 q123 q1143 rfl rfl moX10_nodes rfl rfl (by decide) (by decide) (Nat.le_of_ble_eq_true rfl) (Nat.le_of_ble_eq_true rfl) (Nat.le_of_ble_eq_true rfl) (fun _ _ hx => noX_x hx) (fun v74 L1 hp74 => ?_)
                obtain ⟨rfl, rfl⟩ := hp74
                refine (show Go g κ 77 [some (.ref t), some (.int (nI (if go = true then 1 else 0))), some (.int (nI (if b = true then 1 else 0))), some (.int (nI (2 ^ T1.1 - 1 + i)))] [.int (nI (2 * 2 ^ (blkF T1 (inK T1.1 i)).1 - 1)), .int (nI (2 ^ T1.1 - 1 + i))] [l72_0] 0 0 from ?_)
                refine (show Go g κ 77 [some (.ref t), some (.int (nI (if go = true then 1 else 0))), some (.int (nI (if b = true then 1 else 0))), some (.int (nI (2 ^ T1.1 - 1 + i)))] [.int (nI (2 * 2 ^ T1.1 - 1)), .int (nI (2 ^ T1.1 - 1 + i))] [l72_0] 0 0 from ?_)
                refine g_icmp_ge (tgt := 91) (q := 80) B dX10_halves_77 rfl (by decide) (nI_leI (by omega) (by omega)) (fun c77 => ?_) (fun c77 => ?_)
                · skip
                  have hr_11 : TreeP g t (blkF T1 (inH T1.1)) l72_0 := by rw [← inK_e (by omega), show 2 ^ T1.1 = i by omega]; have z := hl72_0; rw [show i = 2 ^ T1.1 by omega] at z ⊢; exact z
                  obtain ⟨as_h, al_h, ap_h, fs_h, fl_h, fp_h, hB_h, hfs_h, hfl_h, hfp_h, rfl⟩ := hr_11
                  refine g_open 0 rfl rfl rfl ?_
                  refine (show Go g κ 91 [some (.ref t), some (.int (nI (if go = true then 1 else 0))), some (.int (nI (if b = true then 1 else 0))), some (.int (nI (2 ^ T1.1 - 1 + i)))] [] [[(t, .inr (5, [.int (nI (2 ^ (blkF T1 (inH T1.1)).1)), .ref as_h, .ref al_h, .ref ap_h]))], [(as_h, .inl (g.2.1 0, 31, .inl fs_h))], [(al_h, .inl (g.2.1 0, 31, .inl fl_h))], [(ap_h, .inl (g.2.1 0, 16, .inl fp_h))]] 0 0 from ?_)
                  refine g_aload_n (q := 92) B dX10_halves_91 rfl rfl (rv_r _) ?_
                  refine g_dup (q := 93) B dX10_halves_92 rfl rfl ?_
                  refine g_get (q := 96) B (ci := 5) (k := 0) (j := 0) in_X10 rfl dX10_halves_93 rfl rfl (Nat.le_of_ble_eq_true rfl) q2035 rfl rfl ?_
                  refine g_iconst (v := nI 2) (q := 97) B dX10_halves_96 rfl (by decide) ?_
                  refine (show Go g κ 97 [some (.ref t), some (.int (nI (if go = true then 1 else 0))), some (.int (nI (if b = true then 1 else 0))), some (.int (nI (2 ^ T1.1 - 1 + i)))] [.int (nI 2), .int (nI (2 ^ T1.1)), .ref t] [[(t, .inr (5, [.int (nI (2 ^ (blkF T1 (inH T1.1)).1)), .ref as_h, .ref al_h, .ref ap_h]))], [(as_h, .inl (g.2.1 0, 31, .inl fs_h))], [(al_h, .inl (g.2.1 0, 31, .inl fl_h))], [(ap_h, .inl (g.2.1 0, 16, .inl fp_h))]] 0 0 from ?_)
                  refine g_idiv (v := nI (2 ^ (T1.1 - 1))) (q := 98) B dX10_halves_97 rfl (by decide) (by rw [dv2_I _ (by omega)]; congr 1; omega) ?_
                  refine g_put (q := 101) (L2 := [[(t, .inr (5, [.int (nI (2 ^ (T1.1 - 1))), .ref as_h, .ref al_h, .ref ap_h]))], [(as_h, .inl (g.2.1 0, 31, .inl fs_h))], [(al_h, .inl (g.2.1 0, 31, .inl fl_h))], [(ap_h, .inl (g.2.1 0, 16, .inl fp_h))]]) B (ci := 5) (k := 0) (j := 0) in_X10 tyX10 tyX10_ok nmX10 rfl dX10_halves_98 rfl rfl (Nat.le_of_ble_eq_true rfl) q2035 rfl rfl rfl rfl (Nat.le_of_ble_eq_true rfl) rfl ?_
                  obtain ⟨wc_12, ewc_12⟩ : ∃ w : va_W, w = ([[(t, .inr (5, [.int (nI (2 ^ (T1.1 - 1))), .ref as_h, .ref al_h, .ref ap_h]))], [(as_h, .inl (g.2.1 0, 31, .inl fs_h))], [(al_h, .inl (g.2.1 0, 31, .inl fl_h))], [(ap_h, .inl (g.2.1 0, 16, .inl fp_h))]] : List va_W).flatten := ⟨_, rfl⟩
                  have hwc_12 : TreeP g t (halfT T1) wc_12 := by
                    rw [ewc_12]
                    exact ⟨as_h, al_h, ap_h, fs_h, fl_h, fp_h, (TrB.d hB_h (T1.1 - 1) (by omega)), hfs_h, hfl_h, hfp_h, rfl⟩
                  refine g_close (w := wc_12) [0, 0, 0, 0] rfl ewc_12 rfl ?_
                  refine (show Go g κ 101 [some (.ref t), some (.int (nI (if go = true then 1 else 0))), some (.int (nI (if b = true then 1 else 0))), some (.int (nI (2 ^ T1.1 - 1 + i)))] [] [wc_12] 0 0 from ?_)
                  refine g_iload_n (q := 102) B dX10_halves_101 rfl rfl ?_
                  refine g_if_eq (tgt := 117) (q := 105) B dX10_halves_102 rfl (by decide) (iff_false_intro (fun z => c62 (bo_eq.mp z))) (fun z => z.elim) (fun _ => ?_)
                  refine g_aload_n (q := 106) B dX10_halves_105 rfl rfl (rv_r _) ?_
                  obtain ⟨as_13, al_13, ap_13, fs_13, fl_13, fp_13, hB_13, hfs_13, hfl_13, hfp_13, hc_13_0, hc_13_1, hc_13_2, hc_13_3⟩ := TreeP.at (Sub.self hwc_12)
                  refine g_getM (q := 109) B (ci := 5) (k := 0) (j := 0) in_X10 rfl dX10_halves_106 rfl rfl (hc_13_0) (Nat.le_of_ble_eq_true rfl) q2035 rfl rfl ?_
                  refine g_iconst (v := nI 1) (q := 110) B dX10_halves_109 rfl (by decide) ?_
                  refine g_icmp_le (Pp := ¬ 1 < 2 ^ (halfT T1).1) (tgt := 117) (q := 113) B dX10_halves_110 rfl (by decide) (by rw [nI_leI (by have := p2_4 (d := (halfT T1).1) (by show T1.1 - 1 ≤ 4; omega); omega) (by omega)]; omega) (fun c110 => ?_) (fun c110 => ?_)
                  · skip
                    refine g_iconst (v := nI 0) (q := 118) B dX10_halves_117 rfl (by decide) ?_
                    refine g_istore_n (q := 119) (lv2 := [some (.ref t), some (.int (nI 0)), some (.int (nI (if b = true then 1 else 0))), some (.int (nI (2 ^ T1.1 - 1 + i)))]) B dX10_halves_118 rfl (Nat.le_of_ble_eq_true rfl) rfl ?_
                    refine g_goto (tgt := 14) B dX10_halves_119 (by decide) ?_
                    refine g_fg 2 rfl ?_
                    refine g_fg 3 rfl ?_
                    exact ih14 _ (by rw [← hmu14, if_pos hg1]; have hz9 := hgo2.1; first | (rw [if_pos rfl]; show T1.1 - 1 + 1 < T1.1 + 1; omega) | (rw [if_neg (by decide)]; show T1.1 - 1 + 0 < T1.1 + 1; omega) | (rw [if_neg (by decide)]; show T1.1 + 0 < T1.1 + 1; omega)) false (halfT T1) wc_12 hwc_12 (by rw [if_neg (by decide), ← hgo2.2, hlvF_y hgo2.1 hbt]; exact (hlv_0 (p1_le (d := (halfT T1).1) c110)).symm) rfl
                  · skip
                    refine g_iconst (v := nI 1) (q := 114) B dX10_halves_113 rfl (by decide) ?_
                    refine g_goto (tgt := 118) B dX10_halves_114 (by decide) ?_
                    refine g_istore_n (q := 119) (lv2 := [some (.ref t), some (.int (nI 1)), some (.int (nI (if b = true then 1 else 0))), some (.int (nI (2 ^ T1.1 - 1 + i)))]) B dX10_halves_118 rfl (Nat.le_of_ble_eq_true rfl) rfl ?_
                    refine g_goto (tgt := 14) B dX10_halves_119 (by decide) ?_
                    refine g_fg 2 rfl ?_
                    refine g_fg 3 rfl ?_
                    exact ih14 _ (by rw [← hmu14, if_pos hg1]; have hz9 := hgo2.1; first | (rw [if_pos rfl]; show T1.1 - 1 + 1 < T1.1 + 1; omega) | (rw [if_neg (by decide)]; show T1.1 - 1 + 0 < T1.1 + 1; omega) | (rw [if_neg (by decide)]; show T1.1 + 0 < T1.1 + 1; omega)) true (halfT T1) wc_12 hwc_12 (by rw [if_pos rfl]; exact ⟨p1_gt (d := (halfT T1).1) (Classical.not_not.mp c110), by rw [← hgo2.2]; exact (hlvF_y hgo2.1 hbt).symm⟩) rfl
                · skip
                  refine g_aload_n (q := 81) B dX10_halves_80 rfl rfl (rv_r _) ?_
                  refine g_iload_n (q := 82) B dX10_halves_81 rfl rfl ?_
                  refine g_callV (q := 85) (is := [0]) (kc2 := 0) (ks2 := 0) B [.int (nI (2 ^ T1.1 - 1 + i))] (ct_X10_blanks g J (t := t) (T := (blkF T1 (inK T1.1 i))) (n := 2 ^ T1.1 - 1 + i) hl72_0 (by first | assumption | omega | rfl)) dX10_halves_82 rfl (rc_in B (ci := 5) rfl (k := 0) rfl (TreeP.hm hl72_0)) rfl q2521 q2523 qs33 q123 q2524 rfl rfl moX10_blanks rfl rfl (by decide) (by decide) (Nat.le_of_ble_eq_true rfl) (Nat.le_of_ble_eq_true rfl) (Nat.le_of_ble_eq_true rfl) (fun _ _ hx => noX_x hx) (fun v82 L1 hp82 => ?_)
                  obtain ⟨u0_82, rfl, rfl, hu0_82⟩ := hp82
                  refine (show Go g κ 85 [some (.ref t), some (.int (nI (if go = true then 1 else 0))), some (.int (nI (if b = true then 1 else 0))), some (.int (nI (2 ^ T1.1 - 1 + i)))] [] [u0_82] 0 0 from ?_)
                  refine g_iinc (v := nI ((2 ^ T1.1 - 1 + i) + 1)) (q := 88) (lv2 := [some (.ref t), some (.int (nI (if go = true then 1 else 0))), some (.int (nI (if b = true then 1 else 0))), some (.int (nI ((2 ^ T1.1 - 1 + i) + 1)))]) B dX10_halves_85 rfl rfl (nI_add _ 1) (Nat.le_of_ble_eq_true rfl) rfl ?_
                  refine g_goto (tgt := 72) B dX10_halves_88 (by decide) ?_
                  have hr_14 : TreeP g t (blkF T1 (inK T1.1 (i + 1))) u0_82 := by rw [← blkF_s T1 (inK_s T1.1 i)]; exact hu0_82
                  exact ih72 _ (by omega) (i + 1) u0_82 hr_14 (by first | assumption | omega | rfl) rfl
              have hr_15 : TreeP g t (blkF T1 (inK T1.1 0)) l14_0 := by rw [blkF_0 T1 (inK_0 T1.1)]; exact hl14_0
              exact lp72 _ 0 l14_0 hr_15 (Nat.zero_le _) rfl
          · skip
            refine g_iload_n (q := 36) B dX10_halves_35 rfl rfl ?_
            refine g_if_eq (tgt := 53) (q := 39) B dX10_halves_36 rfl (by decide) (bo_eq) (fun c36 => ?_) (fun c36 => ?_)
            · skip
              refine g_iconst (v := nI 0) (q := 54) B dX10_halves_53 rfl (by decide) ?_
              refine g_istore_n (q := 55) (lv2 := [some (.ref t), some (.int (nI (if go = true then 1 else 0))), some (.int (nI 0)), some (.int (nI (2 ^ T1.1 / 2 + j)))]) B dX10_halves_54 rfl (Nat.le_of_ble_eq_true rfl) rfl ?_
              refine g_iinc (v := nI ((2 ^ T1.1 / 2 + j) + 1)) (q := 58) (lv2 := [some (.ref t), some (.int (nI (if go = true then 1 else 0))), some (.int (nI 0)), some (.int (nI ((2 ^ T1.1 / 2 + j) + 1)))]) B dX10_halves_55 rfl rfl (nI_add _ 1) (Nat.le_of_ble_eq_true rfl) rfl ?_
              refine g_goto (tgt := 27) B dX10_halves_58 (by decide) ?_
              exact ih27 _ (by omega) (j + 1) false (by omega) (by rw [bare_s, ← hb, show b = false by simpa using c36]; rfl) rfl
            · skip
              refine g_aload_n (q := 40) B dX10_halves_39 rfl rfl (rv_r _) ?_
              refine g_getM (q := 43) B (ci := 5) (k := 0) (j := 3) in_X10 rfl dX10_halves_40 rfl rfl (hc_10_0) (Nat.le_of_ble_eq_true rfl) q2043 rfl rfl ?_
              refine g_iload_n (q := 44) B dX10_halves_43 rfl rfl ?_
              refine g_ialdM (v := oI (T1.2.2.2 (2 ^ T1.1 / 2 + j))) (q := 45) B (k := 0) dX10_halves_44 rfl rfl (hc_10_3) (vp_in_nI (by omega) (by omega)) (by rw [nI_clamp (by omega)]; exact hfp_10 _ (by omega)) ?_
              refine g_iconst (v := -1) (q := 46) B dX10_halves_45 rfl (by decide) ?_
              refine g_icmp_ne (tgt := 53) (q := 49) B dX10_halves_46 rfl (by decide) (oI_nn ((fun n h => by have := hB_10.2.2.2 _ _ h; omega))) (fun c46 => ?_) (fun c46 => ?_)
              · skip
                obtain ⟨v46, ev46⟩ := Option.ne_none_iff_exists'.mp c46
                refine g_iconst (v := nI 0) (q := 54) B dX10_halves_53 rfl (by decide) ?_
                refine g_istore_n (q := 55) (lv2 := [some (.ref t), some (.int (nI (if go = true then 1 else 0))), some (.int (nI 0)), some (.int (nI (2 ^ T1.1 / 2 + j)))]) B dX10_halves_54 rfl (Nat.le_of_ble_eq_true rfl) rfl ?_
                refine g_iinc (v := nI ((2 ^ T1.1 / 2 + j) + 1)) (q := 58) (lv2 := [some (.ref t), some (.int (nI (if go = true then 1 else 0))), some (.int (nI 0)), some (.int (nI ((2 ^ T1.1 / 2 + j) + 1)))]) B dX10_halves_55 rfl rfl (nI_add _ 1) (Nat.le_of_ble_eq_true rfl) rfl ?_
                refine g_goto (tgt := 27) B dX10_halves_58 (by decide) ?_
                exact ih27 _ (by omega) (j + 1) false (by omega) (by rw [bare_s, show 2 ^ (T1.1 - 1) + j = 2 ^ T1.1 / 2 + j by omega]; cases e9 : T1.2.2.2 (2 ^ T1.1 / 2 + j) with
                  | none => exact absurd e9 c46
                  | some x => simp) rfl
              · skip
                have c46 := Classical.not_not.mp c46
                refine g_iconst (v := nI 1) (q := 50) B dX10_halves_49 rfl (by decide) ?_
                refine g_goto (tgt := 54) B dX10_halves_50 (by decide) ?_
                refine g_istore_n (q := 55) (lv2 := [some (.ref t), some (.int (nI (if go = true then 1 else 0))), some (.int (nI 1)), some (.int (nI (2 ^ T1.1 / 2 + j)))]) B dX10_halves_54 rfl (Nat.le_of_ble_eq_true rfl) rfl ?_
                refine g_iinc (v := nI ((2 ^ T1.1 / 2 + j) + 1)) (q := 58) (lv2 := [some (.ref t), some (.int (nI (if go = true then 1 else 0))), some (.int (nI 1)), some (.int (nI ((2 ^ T1.1 / 2 + j) + 1)))]) B dX10_halves_55 rfl rfl (nI_add _ 1) (Nat.le_of_ble_eq_true rfl) rfl ?_
                refine g_goto (tgt := 27) B dX10_halves_58 (by decide) ?_
                exact ih27 _ (by omega) (j + 1) true (by omega) (by rw [bare_s, ← hb, show b = true by simpa using c36, show 2 ^ (T1.1 - 1) + j = 2 ^ T1.1 / 2 + j by omega, c46]; rfl) rfl
        exact lp27 _ 0 true (Nat.zero_le _) (rfl) rfl
    exact lp14 _ true T w0 hw0 (by rw [if_pos rfl]; exact ⟨p1_gt (Classical.not_not.mp c5), rfl⟩) rfl
theorem addT_e {T : TrS} {p s l d : Nat} (hl : frlT T = l) (hd : d = if l = 2 ^ T.1 then T.1 + 1 else T.1) : addT T p s = latF (d, fup T.2.1 (2 * l) (some s), T.2.2.1, fup T.2.2.2 l (some p)) l (inW d l) := by
  unfold addT
  simp only [hl]
  rw [← hd]
theorem fup_self {α : Type} (f : Nat → α) (a : Nat) : fup f a (f a) = f := by
  funext b
  unfold fup
  split
  · rename_i e; rw [e]
  · rfl
theorem ct_X10_isBlank_o (g : Gv) (J : Jd g) {t : Nat} {n : Nat} {lv : Nat} {as : Nat} {al : Nat} {ap : Nat} {fs : Nat → Int32} {F : Nat → Option Nat} (hn : n < 31) (hfs : ∀ i, i < 31 → fs i = oI (F i)) (hbd : ∀ i n, F i = some n → n < 1000) : Ct g yX10_isBlank (ws_ yX10_isBlank cX10_isBlank 2 (some .boolean)) 0 0 0 [.ref t, .int (nI n)] [[(t, .inr (5, [.int (nI lv), .ref as, .ref al, .ref ap]))], [(as, .inl (g.2.1 0, 31, .inl fs))]] (fun (rv_ : Option Value) (rL_ : List va_W) => rv_ = some (.int (nI (if F n = none then 1 else 0))) ∧ rL_ = [[(t, .inr (5, [.int (nI lv), .ref as, .ref al, .ref ap]))], [(as, .inl (g.2.1 0, 31, .inl fs))]]) noX := by
  refine Ct.of "Keygrove$Tree" [some (.ref t), some (.int (nI n))] rfl (by decide) rfl (Nat.le_of_ble_eq_true rfl) rfl ?_
  intro κ B E tb
  refine g_aload_n (q := 1) B dX10_isBlank_0 rfl rfl (rv_r _) ?_
  refine g_get (q := 4) B (ci := 5) (k := 0) (j := 1) in_X10 rfl dX10_isBlank_1 rfl rfl (Nat.le_of_ble_eq_true rfl) q2038 rfl rfl ?_
  refine g_iload_n (q := 5) B dX10_isBlank_4 rfl rfl ?_
  refine g_iald (v := oI (F n)) (q := 6) B (k := 1) dX10_isBlank_5 rfl rfl (vp_in_nI (by omega) (by omega)) (by rw [nI_clamp (by omega)]; exact hfs _ (by omega)) ?_
  refine g_iconst (v := -1) (q := 7) B dX10_isBlank_6 rfl (by decide) ?_
  refine g_icmp_ne (tgt := 14) (q := 10) B dX10_isBlank_7 rfl (by decide) (oI_nn ((fun n h => by have := hbd _ _ h; omega))) (fun c7 => ?_) (fun c7 => ?_)
  · skip
    obtain ⟨v7, ev7⟩ := Option.ne_none_iff_exists'.mp c7
    refine g_iconst (v := nI 0) (q := 15) B dX10_isBlank_14 rfl (by decide) ?_
    exact g_zret B E dX10_isBlank_15 (by decide) (⟨bo0 (by first | assumption | omega | (simp_all; done)), rfl⟩)
  · skip
    have c7 := Classical.not_not.mp c7
    refine g_iconst (v := nI 1) (q := 11) B dX10_isBlank_10 rfl (by decide) ?_
    refine g_goto (tgt := 15) B dX10_isBlank_11 (by decide) ?_
    exact g_zret B E dX10_isBlank_15 (by decide) (⟨bo1 (by first | assumption | omega | (simp_all; done)), rfl⟩)
theorem moX10_isBlank : Mo yX10_isBlank 1 := by
  refine ⟨by decide, by decide, by decide +kernel⟩
theorem ct_X10_adds (g : Gv) (J : Jd g) {t : Nat} {T : TrS} {p : Nat} {s : Nat} {w0 : va_W} (hw0 : TreeP g t T w0) (hp : p < 16) (hs : s < 1000) (hfl : frlT T < 16) : Ct g yX10_adds (ws_ yX10_adds cX10_adds 6 (some .int)) 8 3 17 [.ref t, .int (nI p), .int (nI s)] [w0] (fun (rv_ : Option Value) (rL_ : List va_W) => ∃ (u0 : va_W), rv_ = some (.int (nI (frlT T))) ∧ rL_ = [u0] ∧ TreeP g t (addT T p s) u0) noX := by
  refine Ct.of "Keygrove$Tree" [some (.ref t), some (.int (nI p)), some (.int (nI s)), none, none, none] rfl (by decide) rfl (Nat.le_of_ble_eq_true rfl) rfl ?_
  intro κ B E tb
  have hB := TreeP.b hw0
  have hp2 := p2_4 hB.1
  have hd4 := hB.1
  have ct26 : ∀ (l : Nat) , (l ≤ 2 ^ T.1) → (∀ i, i < l → T.2.2.2 i ≠ none) → (l = 2 ^ T.1 ∨ T.2.2.2 l = none) → Go g κ 26 [some (.ref t), some (.int (nI p)), some (.int (nI s)), some (.int (nI l)), none, none] [] [w0] 3 17 := by
    intro l hl hlf hlq
    have hfr : frlT T = l := frl_e hl hlf hlq
    have hl16 : l < 16 := by rw [← hfr]; exact hfl
    obtain ⟨as, al, ap, fs, fl, fp, hB, hfs, hfl, hfp, rfl⟩ := hw0
    refine g_open 0 rfl rfl rfl ?_
    refine (show Go g κ 26 [some (.ref t), some (.int (nI p)), some (.int (nI s)), some (.int (nI l)), none, none] [] [[(t, .inr (5, [.int (nI (2 ^ T.1)), .ref as, .ref al, .ref ap]))], [(as, .inl (g.2.1 0, 31, .inl fs))], [(al, .inl (g.2.1 0, 31, .inl fl))], [(ap, .inl (g.2.1 0, 16, .inl fp))]] 3 17 from ?_)
    refine g_aload_n (q := 27) B dX10_adds_26 rfl rfl (rv_r _) ?_
    refine g_iload_n (q := 28) B dX10_adds_27 rfl rfl ?_
    refine g_aload_n (q := 29) B dX10_adds_28 rfl rfl (rv_r _) ?_
    refine g_get (q := 32) B (ci := 5) (k := 0) (j := 0) in_X10 rfl dX10_adds_29 rfl rfl (Nat.le_of_ble_eq_true rfl) q2035 rfl rfl ?_
    refine g_icmp_ne (tgt := 44) (q := 35) B dX10_adds_32 rfl (by decide) (not_congr (nI_eq (by omega) (by omega))) (fun c32 => ?_) (fun c32 => ?_)
    · skip
      refine g_aload_n (q := 45) B dX10_adds_44 rfl rfl (rv_r _) ?_
      refine g_get (q := 48) B (ci := 5) (k := 0) (j := 0) in_X10 rfl dX10_adds_45 rfl rfl (Nat.le_of_ble_eq_true rfl) q2035 rfl rfl ?_
      have hd : T.1 = if l = 2 ^ T.1 then T.1 + 1 else T.1 := by rw [if_neg (by omega)]
      have hl5 : l < 2 ^ T.1 := by omega
      refine g_put (q := 51) (L2 := [[(t, .inr (5, [.int (nI (2 ^ T.1)), .ref as, .ref al, .ref ap]))], [(as, .inl (g.2.1 0, 31, .inl fs))], [(al, .inl (g.2.1 0, 31, .inl fl))], [(ap, .inl (g.2.1 0, 16, .inl fp))]]) B (ci := 5) (k := 0) (j := 0) in_X10 tyX10 tyX10_ok nmX10 rfl dX10_adds_48 rfl rfl (Nat.le_of_ble_eq_true rfl) q2035 rfl rfl rfl rfl (Nat.le_of_ble_eq_true rfl) rfl ?_
      refine g_aload_n (q := 52) B dX10_adds_51 rfl rfl (rv_r _) ?_
      refine g_get (q := 55) B (ci := 5) (k := 0) (j := 3) in_X10 rfl dX10_adds_52 rfl rfl (Nat.le_of_ble_eq_true rfl) q2043 rfl rfl ?_
      refine g_iload_n (q := 56) B dX10_adds_55 rfl rfl ?_
      refine g_iload_n (q := 57) B dX10_adds_56 rfl rfl ?_
      refine g_iast (q := 58) (L2 := [[(t, .inr (5, [.int (nI (2 ^ T.1)), .ref as, .ref al, .ref ap]))], [(as, .inl (g.2.1 0, 31, .inl fs))], [(al, .inl (g.2.1 0, 31, .inl fl))], [(ap, .inl (g.2.1 0, 16, .inl (upd fp l (nI p))))]]) B (k := 3) dX10_adds_57 rfl rfl (vp_in_nI (by omega) (by omega)) (by rw [nI_clamp (by omega)] <;> rfl) ?_
      obtain ⟨f57, ef57⟩ : ∃ f : Nat → Int32, f = upd fp l (nI p) := ⟨_, rfl⟩
      have hf57 : ∀ i, i < 16 → f57 i = oI (fup T.2.2.2 l (some p) i) := by rw [ef57]; exact upd_oI hfp _ (some p)
      rw [← ef57]
      refine (show Go g κ 58 [some (.ref t), some (.int (nI p)), some (.int (nI s)), some (.int (nI l)), none, none] [] [[(t, .inr (5, [.int (nI (2 ^ T.1)), .ref as, .ref al, .ref ap]))], [(as, .inl (g.2.1 0, 31, .inl fs))], [(al, .inl (g.2.1 0, 31, .inl fl))], [(ap, .inl (g.2.1 0, 16, .inl f57))]] 3 17 from ?_)
      refine g_aload_n (q := 59) B dX10_adds_58 rfl rfl (rv_r _) ?_
      refine g_get (q := 62) B (ci := 5) (k := 0) (j := 1) in_X10 rfl dX10_adds_59 rfl rfl (Nat.le_of_ble_eq_true rfl) q2038 rfl rfl ?_
      refine g_iconst (v := nI 2) (q := 63) B dX10_adds_62 rfl (by decide) ?_
      refine g_iload_n (q := 64) B dX10_adds_63 rfl rfl ?_
      refine g_imul (v := nI (2 * l)) (q := 65) B dX10_adds_64 rfl (pk_mul _ _) ?_
      refine g_iload_n (q := 66) B dX10_adds_65 rfl rfl ?_
      refine g_iast (q := 67) (L2 := [[(t, .inr (5, [.int (nI (2 ^ T.1)), .ref as, .ref al, .ref ap]))], [(as, .inl (g.2.1 0, 31, .inl (upd fs (2 * l) (nI s))))], [(al, .inl (g.2.1 0, 31, .inl fl))], [(ap, .inl (g.2.1 0, 16, .inl f57))]]) B (k := 1) dX10_adds_66 rfl rfl (vp_in_nI (by omega) (by omega)) (by rw [nI_clamp (by omega)] <;> rfl) ?_
      obtain ⟨f66, ef66⟩ : ∃ f : Nat → Int32, f = upd fs (2 * l) (nI s) := ⟨_, rfl⟩
      have hf66 : ∀ i, i < 31 → f66 i = oI (fup T.2.1 (2 * l) (some s) i) := by rw [ef66]; exact upd_oI hfs _ (some s)
      rw [← ef66]
      refine (show Go g κ 67 [some (.ref t), some (.int (nI p)), some (.int (nI s)), some (.int (nI l)), none, none] [] [[(t, .inr (5, [.int (nI (2 ^ T.1)), .ref as, .ref al, .ref ap]))], [(as, .inl (g.2.1 0, 31, .inl f66))], [(al, .inl (g.2.1 0, 31, .inl fl))], [(ap, .inl (g.2.1 0, 16, .inl f57))]] 3 17 from ?_)
      obtain ⟨wc_1, ewc_1⟩ : ∃ w : va_W, w = ([[(t, .inr (5, [.int (nI (2 ^ T.1)), .ref as, .ref al, .ref ap]))], [(as, .inl (g.2.1 0, 31, .inl f66))], [(al, .inl (g.2.1 0, 31, .inl fl))], [(ap, .inl (g.2.1 0, 16, .inl f57))]] : List va_W).flatten := ⟨_, rfl⟩
      have hwc_1 : TreeP g t ((T.1, fup T.2.1 (2 * l) (some s), T.2.2.1, fup T.2.2.2 l (some p)) : TrS) wc_1 := by
        rw [ewc_1]
        exact ⟨as, al, ap, f66, fl, f57, (TrB.d (TrB.per (TrB.sec hB (2 * l) (some s) (fun n h => by cases h; exact hs)) l (some p) (fun n h => by cases h; exact hp)) T.1 (by omega)), hf66, hfl, hf57, rfl⟩
      refine g_close (w := wc_1) [0, 0, 0, 0] rfl ewc_1 rfl ?_
      refine (show Go g κ 67 [some (.ref t), some (.int (nI p)), some (.int (nI s)), some (.int (nI l)), none, none] [] [wc_1] 3 17 from ?_)
      have hB2 := TreeP.b hwc_1
      have hp5 := p2_4 hB2.1
      have hwl := wayD_len T.1 l
      have hd6 : T.1 ≤ 4 := hB2.1
      refine g_aload_n (q := 68) B dX10_adds_67 rfl rfl (rv_r _) ?_
      refine g_iload_n (q := 69) B dX10_adds_68 rfl rfl ?_
      refine g_callV (q := 72) (is := [0]) (kc2 := 1) (ks2 := 4) B [.int (nI l)] (ct_X10_way g J (t := t) (T := ((T.1, fup T.2.1 (2 * l) (some s), T.2.2.1, fup T.2.2.2 l (some p)) : TrS)) (l := l) hwc_1 ((show l < 2 ^ T.1 by omega))) dX10_adds_69 rfl (rc_in B (ci := 5) rfl (k := 0) rfl (TreeP.hm hwc_1)) rfl q2494 q2495 q2496 q123 q2497 rfl rfl moX10_way rfl rfl (by decide) (by decide) (Nat.le_of_ble_eq_true rfl) (Nat.le_of_ble_eq_true rfl) (Nat.le_of_ble_eq_true rfl) (fun _ _ hx => noX_x hx) (fun v69 L1 hp69 => ?_)
      obtain ⟨p69, cap69, u1_69, rfl, rfl, hu1_69, hcp_69⟩ := hp69
      refine (show Go g κ 72 [some (.ref t), some (.int (nI p)), some (.int (nI s)), some (.int (nI l)), none, none] [.ref p69] [wc_1, u1_69] 1 4 from ?_)
      have hr_2 : LhP g (BxE g) p69 (wayD T.1 l) cap69 u1_69 := hu1_69
      obtain ⟨ps_3, md_3, hli_3, hln_3, hel_3⟩ := LhP.at (Sub.self hr_2)
      refine g_callF (q := 77) (is := [1]) (kc2 := 0) (ks2 := 0) B [] (ct_J2_iterator_s g J (p := p69) (xs := ps_3) (md := md_3) (cap := cap69) (W0 := u1_69)  (hli_3)) dX10_adds_72 rfl (ci := 21) rfl (rc_in B (ci := 21) rfl (k := 1) rfl (LhP.hm hr_2)) q2514 q1156 q805 q81 q807 q1155 q1154 q806 q804 q318 rfl rfl mojava_util_List_iterator___Ljava_util_Iterator_ rfl rfl (by decide) (by decide) (Nat.le_of_ble_eq_true rfl) (Nat.le_of_ble_eq_true rfl) (Nat.le_of_ble_eq_true rfl) (fun _ _ hx => noX_x hx) (fun v72 L1 hp72 => ?_)
      obtain ⟨it72, rfl, rfl⟩ := hp72
      refine (show Go g κ 77 [some (.ref t), some (.int (nI p)), some (.int (nI s)), some (.int (nI l)), none, none] [.ref it72] [wc_1, [(it72, .inr (22, [.int (nI 0), .int (-1), .int md_3, .ref p69]))], u1_69] 0 0 from ?_)
      refine g_astore (q := 79) (lv2 := [some (.ref t), some (.int (nI p)), some (.int (nI s)), some (.int (nI l)), some (.ref it72), none]) B dX10_adds_77 rfl (Nat.le_of_ble_eq_true rfl) (rv_r _) rfl ?_
      have lp79 : ∀ (n79 : Nat) (k : Nat) (lr : Int32) (l79_0 : va_W), TreeP g t (latF ((T.1, fup T.2.1 (2 * l) (some s), T.2.2.1, fup T.2.2.2 l (some p)) : TrS) l (inW k l)) l79_0 → (k ≤ (wayD T.1 l).length) → (wayD T.1 l).length - k = n79 → Go g κ 79 [some (.ref t), some (.int (nI p)), some (.int (nI s)), some (.int (nI l)), some (.ref it72), none] [] [l79_0, [(it72, .inr (22, [.int (nI k), .int lr, .int md_3, .ref p69]))], u1_69] 0 0 := by
        intro n79
        induction n79 using Nat.strongRecOn with
        | _ n79 ih79 =>
        intro k lr l79_0 hl79_0 hk hmu79
        refine g_aload (q := 81) B dX10_adds_79 rfl rfl (rv_r _) ?_
        refine g_callF (q := 86) (is := [1, 1]) (kc2 := 0) (ks2 := 0) B [] (ct_J19_hasNext_s g J (p := p69) (xs := ps_3) (md := md_3) (cap := cap69) (it := it72) (c := k) (lr := lr) (W1 := u1_69)  (hli_3) (by have := hln_3.1; omega)) dX10_adds_81 rfl (ci := 22) rfl (rc_at B (ci := 22) rfl (k := 1) rfl) q2516 q940 q942 q104 q944 q938 q937 q943 q941 q939 rfl rfl mojava_util_Iterator_hasNext___Z rfl rfl (by decide) (by decide) (Nat.le_of_ble_eq_true rfl) (Nat.le_of_ble_eq_true rfl) (Nat.le_of_ble_eq_true rfl) (fun _ _ hx => noX_x hx) (fun v81 L1 hp81 => ?_)
        obtain ⟨rfl, rfl⟩ := hp81
        refine (show Go g κ 86 [some (.ref t), some (.int (nI p)), some (.int (nI s)), some (.int (nI l)), some (.ref it72), none] [.int (nI (if ¬ k = ps_3.length then 1 else 0))] [l79_0, [(it72, .inr (22, [.int (nI k), .int lr, .int md_3, .ref p69]))], u1_69] 0 0 from ?_)
        rw [hln_3.1]
        refine (show Go g κ 86 [some (.ref t), some (.int (nI p)), some (.int (nI s)), some (.int (nI l)), some (.ref it72), none] [.int (nI (if ¬ k = (wayD T.1 l).length then 1 else 0))] [l79_0, [(it72, .inr (22, [.int (nI k), .int lr, .int md_3, .ref p69]))], u1_69] 0 0 from ?_)
        refine g_if_eq (tgt := 133) (q := 89) B dX10_adds_86 rfl (by decide) (bo_eq) (fun c86 => ?_) (fun c86 => ?_)
        · skip
          have hr_4 : TreeP g t (addT T p s) l79_0 := by rw [addT_e hfr hd]; have z := hl79_0; rw [show k = T.1 by omega] at z; exact z
          refine g_iload_n (q := 134) B dX10_adds_133 rfl rfl ?_
          refine g_pk [0] rfl rfl ?_
          refine (show Go g κ 134 [some (.ref t), some (.int (nI p)), some (.int (nI s)), some (.int (nI l)), some (.ref it72), none] [.int (nI l)] [l79_0] 0 0 from ?_)
          exact g_iret B E dX10_adds_134 (⟨_, by rw [hfr], rfl, hr_4⟩)
        · skip
          have c86 := Classical.not_not.mp c86
          refine g_aload (q := 91) B dX10_adds_89 rfl rfl (rv_r _) ?_
          obtain ⟨x91, hx91⟩ := get_ex (xs := ps_3) (i := k) (by have := get_lt2 (show (wayD T.1 l)[k]? = some (nab l (k + 1)) from (wayD_get (show k < T.1 by omega))); have := hln_3.1; omega)
          have hb_5 := Sub.box (hel_3 _ _ _ hx91 (show (wayD T.1 l)[k]? = some (nab l (k + 1)) from (wayD_get (show k < T.1 by omega))))
          refine g_callF (q := 96) (is := [1, 1]) (kc2 := 0) (ks2 := 0) B [] (ct_J19_next_s g J (p := p69) (xs := ps_3) (md := md_3) (cap := cap69) (it := it72) (c := k) (lr := lr) (x := x91) (W1 := u1_69)  (hli_3) (hx91)) dX10_adds_91 rfl (ci := 22) rfl (rc_at B (ci := 22) rfl (k := 1) rfl) q2518 q967 q969 q104 q971 q966 q965 q970 q968 q939 rfl rfl mojava_util_Iterator_next___Ljava_lang_Object_ rfl rfl (by decide) (by decide) (Nat.le_of_ble_eq_true rfl) (Nat.le_of_ble_eq_true rfl) (Nat.le_of_ble_eq_true rfl) (fun _ _ hx => noX_x hx) (fun v91 L1 hp91 => ?_)
          obtain ⟨rfl, rfl⟩ := hp91
          refine (show Go g κ 96 [some (.ref t), some (.int (nI p)), some (.int (nI s)), some (.int (nI l)), some (.ref it72), none] [.ref x91] [l79_0, [(it72, .inr (22, [.int (nI (k + 1)), .int (nI k), .int md_3, .ref p69]))], u1_69] 0 0 from ?_)
          refine g_castRS (ci := 35) (q := 99) B rfl (rc_bxat B J (k := 2) rfl hb_5) dX10_adds_96 rfl q2519 ?_
          refine g_callV (q := 102) (is := [2]) (kc2 := 0) (ks2 := 0) B [] (ct_J26_intValue_b g J (a := x91) (v := nI (nab l (k + 1))) (wb := u1_69)  (hb_5)) dX10_adds_99 rfl (rc_bxat B J (k := 2) rfl hb_5) rfl q2520 q1052 q1053 q111 q1054 rfl rfl moJ26_intValue rfl rfl (by decide) (by decide) (Nat.le_of_ble_eq_true rfl) (Nat.le_of_ble_eq_true rfl) (Nat.le_of_ble_eq_true rfl) (fun _ _ hx => noX_x hx) (fun v99 L1 hp99 => ?_)
          obtain ⟨rfl, rfl⟩ := hp99
          refine (show Go g κ 102 [some (.ref t), some (.int (nI p)), some (.int (nI s)), some (.int (nI l)), some (.ref it72), none] [.int (nI (nab l (k + 1)))] [l79_0, [(it72, .inr (22, [.int (nI (k + 1)), .int (nI k), .int md_3, .ref p69]))], u1_69] 0 0 from ?_)
          have hnc : nab l (k + 1) < 31 := nab_b (k + 1) (by omega) l (by omega)
          obtain ⟨as_q, al_q, ap_q, fs_q, fl_q, fp_q, hB_q, hfs_q, hfl_q, hfp_q, rfl⟩ := hl79_0
          refine g_open 0 rfl rfl rfl ?_
          refine (show Go g κ 102 [some (.ref t), some (.int (nI p)), some (.int (nI s)), some (.int (nI l)), some (.ref it72), none] [.int (nI (nab l (k + 1)))] [[(it72, .inr (22, [.int (nI (k + 1)), .int (nI k), .int md_3, .ref p69]))], u1_69, [(t, .inr (5, [.int (nI (2 ^ (latF ((T.1, fup T.2.1 (2 * l) (some s), T.2.2.1, fup T.2.2.2 l (some p)) : TrS) l (inW k l)).1)), .ref as_q, .ref al_q, .ref ap_q]))], [(as_q, .inl (g.2.1 0, 31, .inl fs_q))], [(al_q, .inl (g.2.1 0, 31, .inl fl_q))], [(ap_q, .inl (g.2.1 0, 16, .inl fp_q))]] 0 0 from ?_)
          refine g_istore (q := 104) (lv2 := [some (.ref t), some (.int (nI p)), some (.int (nI s)), some (.int (nI l)), some (.ref it72), some (.int (nI (nab l (k + 1))))]) B dX10_adds_102 rfl (Nat.le_of_ble_eq_true rfl) rfl ?_
          refine g_aload_n (q := 105) B dX10_adds_104 rfl rfl (rv_r _) ?_
          refine g_get (q := 108) B (ci := 5) (k := 2) (j := 2) in_X10 rfl dX10_adds_105 rfl rfl (Nat.le_of_ble_eq_true rfl) q2041 rfl rfl ?_
          refine g_iload (q := 110) B dX10_adds_108 rfl rfl ?_
          refine g_dup2_11 (q := 111) B dX10_adds_110 rfl rfl rfl ?_
          refine g_iald (v := nI (((latF ((T.1, fup T.2.1 (2 * l) (some s), T.2.2.1, fup T.2.2.2 l (some p)) : TrS) l (inW k l)).2.2.1) (nab l (k + 1)))) (q := 112) B (k := 4) dX10_adds_111 rfl rfl (vp_in_nI (by omega) (by omega)) (by rw [nI_clamp (by omega)]; exact hfl_q _ (by omega)) ?_
          refine g_aload_n (q := 113) B dX10_adds_112 rfl rfl (rv_r _) ?_
          refine g_iload (q := 115) B dX10_adds_113 rfl rfl ?_
          refine g_callV (q := 118) (is := [2, 2]) (kc2 := 0) (ks2 := 0) B [.int (nI (nab l (k + 1)))] (ct_X10_isBlank_o g J (t := t) (n := (nab l (k + 1))) (lv := 2 ^ (latF ((T.1, fup T.2.1 (2 * l) (some s), T.2.2.1, fup T.2.2.2 l (some p)) : TrS) l (inW k l)).1) (as := as_q) (al := al_q) (ap := ap_q) (fs := fs_q) (F := ((T.1, fup T.2.1 (2 * l) (some s), T.2.2.1, fup T.2.2.2 l (some p)) : TrS).2.1)  (by omega) (hfs_q) (hB2.2.1)) dX10_adds_115 rfl (rc_at B (ci := 5) rfl (k := 2) rfl) rfl q2553 q1145 q1146 q123 q1147 rfl rfl moX10_isBlank rfl rfl (by decide) (by decide) (Nat.le_of_ble_eq_true rfl) (Nat.le_of_ble_eq_true rfl) (Nat.le_of_ble_eq_true rfl) (fun _ _ hx => noX_x hx) (fun v115 L1 hp115 => ?_)
          obtain ⟨rfl, rfl⟩ := hp115
          refine (show Go g κ 118 [some (.ref t), some (.int (nI p)), some (.int (nI s)), some (.int (nI l)), some (.ref it72), some (.int (nI (nab l (k + 1))))] [.int (nI (if (((T.1, fup T.2.1 (2 * l) (some s), T.2.2.1, fup T.2.2.2 l (some p)) : TrS).2.1) (nab l (k + 1)) = none then 1 else 0)), .int (nI (((latF ((T.1, fup T.2.1 (2 * l) (some s), T.2.2.1, fup T.2.2.2 l (some p)) : TrS) l (inW k l)).2.2.1) (nab l (k + 1)))), .int (nI (nab l (k + 1))), .ref al_q] [[(it72, .inr (22, [.int (nI (k + 1)), .int (nI k), .int md_3, .ref p69]))], u1_69, [(al_q, .inl (g.2.1 0, 31, .inl fl_q))], [(ap_q, .inl (g.2.1 0, 16, .inl fp_q))], [(t, .inr (5, [.int (nI (2 ^ (latF ((T.1, fup T.2.1 (2 * l) (some s), T.2.2.1, fup T.2.2.2 l (some p)) : TrS) l (inW k l)).1)), .ref as_q, .ref al_q, .ref ap_q]))], [(as_q, .inl (g.2.1 0, 31, .inl fs_q))]] 0 0 from ?_)
          refine g_if_eq (tgt := 125) (q := 121) B dX10_adds_118 rfl (by decide) (bo_eq) (fun c118 => ?_) (fun c118 => ?_)
          · skip
            refine g_iconst (v := nI 1) (q := 126) B dX10_adds_125 rfl (by decide) ?_
            refine g_iload_n (q := 127) B dX10_adds_126 rfl rfl ?_
            refine g_ishl (v := nI (2 ^ l)) (q := 128) B dX10_adds_127 rfl (shl_J l (by omega)) ?_
            refine g_ior (v := nI ((((latF ((T.1, fup T.2.1 (2 * l) (some s), T.2.2.1, fup T.2.2.2 l (some p)) : TrS) l (inW k l)).2.2.1) (nab l (k + 1))) ||| 2 ^ l)) (q := 129) B dX10_adds_128 rfl (nI_or _ _) ?_
            refine g_iast (q := 130) (L2 := [[(it72, .inr (22, [.int (nI (k + 1)), .int (nI k), .int md_3, .ref p69]))], u1_69, [(al_q, .inl (g.2.1 0, 31, .inl (upd fl_q (nab l (k + 1)) (nI ((((latF ((T.1, fup T.2.1 (2 * l) (some s), T.2.2.1, fup T.2.2.2 l (some p)) : TrS) l (inW k l)).2.2.1) (nab l (k + 1))) ||| 2 ^ l)))))], [(ap_q, .inl (g.2.1 0, 16, .inl fp_q))], [(t, .inr (5, [.int (nI (2 ^ (latF ((T.1, fup T.2.1 (2 * l) (some s), T.2.2.1, fup T.2.2.2 l (some p)) : TrS) l (inW k l)).1)), .ref as_q, .ref al_q, .ref ap_q]))], [(as_q, .inl (g.2.1 0, 31, .inl fs_q))]]) B (k := 2) dX10_adds_129 rfl rfl (vp_in_nI (by omega) (by omega)) (by rw [nI_clamp (by omega)] <;> rfl) ?_
            obtain ⟨f129, ef129⟩ : ∃ f : Nat → Int32, f = upd fl_q (nab l (k + 1)) (nI ((((latF ((T.1, fup T.2.1 (2 * l) (some s), T.2.2.1, fup T.2.2.2 l (some p)) : TrS) l (inW k l)).2.2.1) (nab l (k + 1))) ||| 2 ^ l)) := ⟨_, rfl⟩
            have hf129 : ∀ i, i < 31 → f129 i = nI (fup ((latF ((T.1, fup T.2.1 (2 * l) (some s), T.2.2.1, fup T.2.2.2 l (some p)) : TrS) l (inW k l)).2.2.1) (nab l (k + 1)) ((((latF ((T.1, fup T.2.1 (2 * l) (some s), T.2.2.1, fup T.2.2.2 l (some p)) : TrS) l (inW k l)).2.2.1) (nab l (k + 1))) ||| 2 ^ l) i) := by rw [ef129]; exact upd_nI hfl_q _ ((((latF ((T.1, fup T.2.1 (2 * l) (some s), T.2.2.1, fup T.2.2.2 l (some p)) : TrS) l (inW k l)).2.2.1) (nab l (k + 1))) ||| 2 ^ l)
            rw [← ef129]
            refine (show Go g κ 130 [some (.ref t), some (.int (nI p)), some (.int (nI s)), some (.int (nI l)), some (.ref it72), some (.int (nI (nab l (k + 1))))] [] [[(it72, .inr (22, [.int (nI (k + 1)), .int (nI k), .int md_3, .ref p69]))], u1_69, [(al_q, .inl (g.2.1 0, 31, .inl f129))], [(ap_q, .inl (g.2.1 0, 16, .inl fp_q))], [(t, .inr (5, [.int (nI (2 ^ (latF ((T.1, fup T.2.1 (2 * l) (some s), T.2.2.1, fup T.2.2.2 l (some p)) : TrS) l (inW k l)).1)), .ref as_q, .ref al_q, .ref ap_q]))], [(as_q, .inl (g.2.1 0, 31, .inl fs_q))]] 0 0 from ?_)
            obtain ⟨wc_6, ewc_6⟩ : ∃ w : va_W, w = ([[(t, .inr (5, [.int (nI (2 ^ (latF ((T.1, fup T.2.1 (2 * l) (some s), T.2.2.1, fup T.2.2.2 l (some p)) : TrS) l (inW k l)).1)), .ref as_q, .ref al_q, .ref ap_q]))], [(as_q, .inl (g.2.1 0, 31, .inl fs_q))], [(al_q, .inl (g.2.1 0, 31, .inl f129))], [(ap_q, .inl (g.2.1 0, 16, .inl fp_q))]] : List va_W).flatten := ⟨_, rfl⟩
            have hwc_6 : TreeP g t (latF ((T.1, fup T.2.1 (2 * l) (some s), T.2.2.1, fup T.2.2.2 l (some p)) : TrS) l (inW (k + 1) l)) wc_6 := by
              rw [ewc_6]
              exact ⟨as_q, al_q, ap_q, fs_q, f129, fp_q, (TrB.latF hB2 hl16 _), hfs_q, (by have z := latF_s ((T.1, fup T.2.1 (2 * l) (some s), T.2.2.1, fup T.2.2.2 l (some p)) : TrS) l (inW_s k l) (inW_new k (by omega) l hl16) c118; rw [← z]; exact hf129), hfp_q, rfl⟩
            refine g_close (w := wc_6) [4, 4, 2, 2] rfl ewc_6 rfl ?_
            refine (show Go g κ 130 [some (.ref t), some (.int (nI p)), some (.int (nI s)), some (.int (nI l)), some (.ref it72), some (.int (nI (nab l (k + 1))))] [] [[(it72, .inr (22, [.int (nI (k + 1)), .int (nI k), .int md_3, .ref p69]))], u1_69, wc_6] 0 0 from ?_)
            refine g_goto (tgt := 79) B dX10_adds_130 (by decide) ?_
            refine g_fg 5 rfl ?_
            refine g_pk [2, 0, 0] rfl rfl ?_
            refine (show Go g κ 79 [some (.ref t), some (.int (nI p)), some (.int (nI s)), some (.int (nI l)), some (.ref it72), none] [] [wc_6, [(it72, .inr (22, [.int (nI (k + 1)), .int (nI k), .int md_3, .ref p69]))], u1_69] 0 0 from ?_)
            exact ih79 _ (by omega) (k + 1) (nI k) wc_6 hwc_6 (by first | assumption | omega | rfl) rfl
          · skip
            have c118 := Classical.not_not.mp c118
            refine g_iconst (v := nI 0) (q := 122) B dX10_adds_121 rfl (by decide) ?_
            refine g_goto (tgt := 128) B dX10_adds_122 (by decide) ?_
            refine g_ior (v := nI (((latF ((T.1, fup T.2.1 (2 * l) (some s), T.2.2.1, fup T.2.2.2 l (some p)) : TrS) l (inW k l)).2.2.1) (nab l (k + 1)))) (q := 129) B dX10_adds_128 rfl (nI_la _) ?_
            refine g_iast (q := 130) (L2 := [[(it72, .inr (22, [.int (nI (k + 1)), .int (nI k), .int md_3, .ref p69]))], u1_69, [(al_q, .inl (g.2.1 0, 31, .inl (upd fl_q (nab l (k + 1)) (nI (((latF ((T.1, fup T.2.1 (2 * l) (some s), T.2.2.1, fup T.2.2.2 l (some p)) : TrS) l (inW k l)).2.2.1) (nab l (k + 1)))))))], [(ap_q, .inl (g.2.1 0, 16, .inl fp_q))], [(t, .inr (5, [.int (nI (2 ^ (latF ((T.1, fup T.2.1 (2 * l) (some s), T.2.2.1, fup T.2.2.2 l (some p)) : TrS) l (inW k l)).1)), .ref as_q, .ref al_q, .ref ap_q]))], [(as_q, .inl (g.2.1 0, 31, .inl fs_q))]]) B (k := 2) dX10_adds_129 rfl rfl (vp_in_nI (by omega) (by omega)) (by rw [nI_clamp (by omega)] <;> rfl) ?_
            obtain ⟨f129, ef129⟩ : ∃ f : Nat → Int32, f = upd fl_q (nab l (k + 1)) (nI (((latF ((T.1, fup T.2.1 (2 * l) (some s), T.2.2.1, fup T.2.2.2 l (some p)) : TrS) l (inW k l)).2.2.1) (nab l (k + 1)))) := ⟨_, rfl⟩
            have hf129 : ∀ i, i < 31 → f129 i = nI (fup ((latF ((T.1, fup T.2.1 (2 * l) (some s), T.2.2.1, fup T.2.2.2 l (some p)) : TrS) l (inW k l)).2.2.1) (nab l (k + 1)) (((latF ((T.1, fup T.2.1 (2 * l) (some s), T.2.2.1, fup T.2.2.2 l (some p)) : TrS) l (inW k l)).2.2.1) (nab l (k + 1))) i) := by rw [ef129]; exact upd_nI hfl_q _ (((latF ((T.1, fup T.2.1 (2 * l) (some s), T.2.2.1, fup T.2.2.2 l (some p)) : TrS) l (inW k l)).2.2.1) (nab l (k + 1)))
            rw [← ef129]
            refine (show Go g κ 130 [some (.ref t), some (.int (nI p)), some (.int (nI s)), some (.int (nI l)), some (.ref it72), some (.int (nI (nab l (k + 1))))] [] [[(it72, .inr (22, [.int (nI (k + 1)), .int (nI k), .int md_3, .ref p69]))], u1_69, [(al_q, .inl (g.2.1 0, 31, .inl f129))], [(ap_q, .inl (g.2.1 0, 16, .inl fp_q))], [(t, .inr (5, [.int (nI (2 ^ (latF ((T.1, fup T.2.1 (2 * l) (some s), T.2.2.1, fup T.2.2.2 l (some p)) : TrS) l (inW k l)).1)), .ref as_q, .ref al_q, .ref ap_q]))], [(as_q, .inl (g.2.1 0, 31, .inl fs_q))]] 0 0 from ?_)
            obtain ⟨wc_7, ewc_7⟩ : ∃ w : va_W, w = ([[(t, .inr (5, [.int (nI (2 ^ (latF ((T.1, fup T.2.1 (2 * l) (some s), T.2.2.1, fup T.2.2.2 l (some p)) : TrS) l (inW k l)).1)), .ref as_q, .ref al_q, .ref ap_q]))], [(as_q, .inl (g.2.1 0, 31, .inl fs_q))], [(al_q, .inl (g.2.1 0, 31, .inl f129))], [(ap_q, .inl (g.2.1 0, 16, .inl fp_q))]] : List va_W).flatten := ⟨_, rfl⟩
            have hwc_7 : TreeP g t (latF ((T.1, fup T.2.1 (2 * l) (some s), T.2.2.1, fup T.2.2.2 l (some p)) : TrS) l (inW (k + 1) l)) wc_7 := by
              rw [ewc_7]
              exact ⟨as_q, al_q, ap_q, fs_q, f129, fp_q, (TrB.latF hB2 hl16 _), hfs_q, (by rw [← latF_n ((T.1, fup T.2.1 (2 * l) (some s), T.2.2.1, fup T.2.2.2 l (some p)) : TrS) l (inW_s k l) c118]; intro i hi; rw [hf129 i hi, fup_self]), hfp_q, rfl⟩
            refine g_close (w := wc_7) [4, 4, 2, 2] rfl ewc_7 rfl ?_
            refine (show Go g κ 130 [some (.ref t), some (.int (nI p)), some (.int (nI s)), some (.int (nI l)), some (.ref it72), some (.int (nI (nab l (k + 1))))] [] [[(it72, .inr (22, [.int (nI (k + 1)), .int (nI k), .int md_3, .ref p69]))], u1_69, wc_7] 0 0 from ?_)
            refine g_goto (tgt := 79) B dX10_adds_130 (by decide) ?_
            refine g_fg 5 rfl ?_
            refine g_pk [2, 0, 0] rfl rfl ?_
            refine (show Go g κ 79 [some (.ref t), some (.int (nI p)), some (.int (nI s)), some (.int (nI l)), some (.ref it72), none] [] [wc_7, [(it72, .inr (22, [.int (nI (k + 1)), .int (nI k), .int md_3, .ref p69]))], u1_69] 0 0 from ?_)
            exact ih79 _ (by omega) (k + 1) (nI k) wc_7 hwc_7 (by first | assumption | omega | rfl) rfl
      have hr_8 : TreeP g t (latF ((T.1, fup T.2.1 (2 * l) (some s), T.2.2.1, fup T.2.2.2 l (some p)) : TrS) l (inW 0 l)) wc_1 := by rw [latF_0 _ l (inW_0 l)]; exact hwc_1
      exact lp79 _ 0 (-1) wc_1 hr_8 (Nat.zero_le _) rfl
    · skip
      refine g_iconst (v := nI 2) (q := 36) B dX10_adds_35 rfl (by decide) ?_
      refine g_aload_n (q := 37) B dX10_adds_36 rfl rfl (rv_r _) ?_
      refine g_get (q := 40) B (ci := 5) (k := 0) (j := 0) in_X10 rfl dX10_adds_37 rfl rfl (Nat.le_of_ble_eq_true rfl) q2035 rfl rfl ?_
      refine g_imul (v := nI (2 * (2 ^ T.1))) (q := 41) B dX10_adds_40 rfl (pk_mul _ _) ?_
      refine g_goto (tgt := 48) B dX10_adds_41 (by decide) ?_
      have hd : T.1 + 1 = if l = 2 ^ T.1 then T.1 + 1 else T.1 := by rw [if_pos (by omega)]
      have hT3 : T.1 ≤ 3 := by
        rcases Nat.lt_or_ge T.1 4 with z | z
        · omega
        · have e4 : T.1 = 4 := by omega
          rw [e4] at c32; omega
      rw [(show 2 * (2 ^ T.1) = 2 ^ (T.1 + 1) from by rw [Nat.pow_succ]; omega)]
      refine (show Go g κ 48 [some (.ref t), some (.int (nI p)), some (.int (nI s)), some (.int (nI l)), none, none] [.int (nI (2 ^ (T.1 + 1))), .ref t] [[(t, .inr (5, [.int (nI (2 ^ T.1)), .ref as, .ref al, .ref ap]))], [(as, .inl (g.2.1 0, 31, .inl fs))], [(al, .inl (g.2.1 0, 31, .inl fl))], [(ap, .inl (g.2.1 0, 16, .inl fp))]] 3 17 from ?_)
      have hp4 : 2 ^ (T.1 + 1) = 2 * 2 ^ T.1 := by rw [Nat.pow_succ]; omega
      refine g_put (q := 51) (L2 := [[(t, .inr (5, [.int (nI (2 ^ (T.1 + 1))), .ref as, .ref al, .ref ap]))], [(as, .inl (g.2.1 0, 31, .inl fs))], [(al, .inl (g.2.1 0, 31, .inl fl))], [(ap, .inl (g.2.1 0, 16, .inl fp))]]) B (ci := 5) (k := 0) (j := 0) in_X10 tyX10 tyX10_ok nmX10 rfl dX10_adds_48 rfl rfl (Nat.le_of_ble_eq_true rfl) q2035 rfl rfl rfl rfl (Nat.le_of_ble_eq_true rfl) rfl ?_
      refine g_aload_n (q := 52) B dX10_adds_51 rfl rfl (rv_r _) ?_
      refine g_get (q := 55) B (ci := 5) (k := 0) (j := 3) in_X10 rfl dX10_adds_52 rfl rfl (Nat.le_of_ble_eq_true rfl) q2043 rfl rfl ?_
      refine g_iload_n (q := 56) B dX10_adds_55 rfl rfl ?_
      refine g_iload_n (q := 57) B dX10_adds_56 rfl rfl ?_
      refine g_iast (q := 58) (L2 := [[(t, .inr (5, [.int (nI (2 ^ (T.1 + 1))), .ref as, .ref al, .ref ap]))], [(as, .inl (g.2.1 0, 31, .inl fs))], [(al, .inl (g.2.1 0, 31, .inl fl))], [(ap, .inl (g.2.1 0, 16, .inl (upd fp l (nI p))))]]) B (k := 3) dX10_adds_57 rfl rfl (vp_in_nI (by omega) (by omega)) (by rw [nI_clamp (by omega)] <;> rfl) ?_
      obtain ⟨f57, ef57⟩ : ∃ f : Nat → Int32, f = upd fp l (nI p) := ⟨_, rfl⟩
      have hf57 : ∀ i, i < 16 → f57 i = oI (fup T.2.2.2 l (some p) i) := by rw [ef57]; exact upd_oI hfp _ (some p)
      rw [← ef57]
      refine (show Go g κ 58 [some (.ref t), some (.int (nI p)), some (.int (nI s)), some (.int (nI l)), none, none] [] [[(t, .inr (5, [.int (nI (2 ^ (T.1 + 1))), .ref as, .ref al, .ref ap]))], [(as, .inl (g.2.1 0, 31, .inl fs))], [(al, .inl (g.2.1 0, 31, .inl fl))], [(ap, .inl (g.2.1 0, 16, .inl f57))]] 3 17 from ?_)
      refine g_aload_n (q := 59) B dX10_adds_58 rfl rfl (rv_r _) ?_
      refine g_get (q := 62) B (ci := 5) (k := 0) (j := 1) in_X10 rfl dX10_adds_59 rfl rfl (Nat.le_of_ble_eq_true rfl) q2038 rfl rfl ?_
      refine g_iconst (v := nI 2) (q := 63) B dX10_adds_62 rfl (by decide) ?_
      refine g_iload_n (q := 64) B dX10_adds_63 rfl rfl ?_
      refine g_imul (v := nI (2 * l)) (q := 65) B dX10_adds_64 rfl (pk_mul _ _) ?_
      refine g_iload_n (q := 66) B dX10_adds_65 rfl rfl ?_
      refine g_iast (q := 67) (L2 := [[(t, .inr (5, [.int (nI (2 ^ (T.1 + 1))), .ref as, .ref al, .ref ap]))], [(as, .inl (g.2.1 0, 31, .inl (upd fs (2 * l) (nI s))))], [(al, .inl (g.2.1 0, 31, .inl fl))], [(ap, .inl (g.2.1 0, 16, .inl f57))]]) B (k := 1) dX10_adds_66 rfl rfl (vp_in_nI (by omega) (by omega)) (by rw [nI_clamp (by omega)] <;> rfl) ?_
      obtain ⟨f66, ef66⟩ : ∃ f : Nat → Int32, f = upd fs (2 * l) (nI s) := ⟨_, rfl⟩
      have hf66 : ∀ i, i < 31 → f66 i = oI (fup T.2.1 (2 * l) (some s) i) := by rw [ef66]; exact upd_oI hfs _ (some s)
      rw [← ef66]
      refine (show Go g κ 67 [some (.ref t), some (.int (nI p)), some (.int (nI s)), some (.int (nI l)), none, none] [] [[(t, .inr (5, [.int (nI (2 ^ (T.1 + 1))), .ref as, .ref al, .ref ap]))], [(as, .inl (g.2.1 0, 31, .inl f66))], [(al, .inl (g.2.1 0, 31, .inl fl))], [(ap, .inl (g.2.1 0, 16, .inl f57))]] 3 17 from ?_)
      obtain ⟨wc_9, ewc_9⟩ : ∃ w : va_W, w = ([[(t, .inr (5, [.int (nI (2 ^ (T.1 + 1))), .ref as, .ref al, .ref ap]))], [(as, .inl (g.2.1 0, 31, .inl f66))], [(al, .inl (g.2.1 0, 31, .inl fl))], [(ap, .inl (g.2.1 0, 16, .inl f57))]] : List va_W).flatten := ⟨_, rfl⟩
      have hwc_9 : TreeP g t ((T.1 + 1, fup T.2.1 (2 * l) (some s), T.2.2.1, fup T.2.2.2 l (some p)) : TrS) wc_9 := by
        rw [ewc_9]
        exact ⟨as, al, ap, f66, fl, f57, (TrB.d (TrB.per (TrB.sec hB (2 * l) (some s) (fun n h => by cases h; exact hs)) l (some p) (fun n h => by cases h; exact hp)) (T.1 + 1) (by omega)), hf66, hfl, hf57, rfl⟩
      refine g_close (w := wc_9) [0, 0, 0, 0] rfl ewc_9 rfl ?_
      refine (show Go g κ 67 [some (.ref t), some (.int (nI p)), some (.int (nI s)), some (.int (nI l)), none, none] [] [wc_9] 3 17 from ?_)
      have hB2 := TreeP.b hwc_9
      have hp5 := p2_4 hB2.1
      have hwl := wayD_len (T.1 + 1) l
      have hd6 : (T.1 + 1) ≤ 4 := hB2.1
      refine g_aload_n (q := 68) B dX10_adds_67 rfl rfl (rv_r _) ?_
      refine g_iload_n (q := 69) B dX10_adds_68 rfl rfl ?_
      refine g_callV (q := 72) (is := [0]) (kc2 := 1) (ks2 := 4) B [.int (nI l)] (ct_X10_way g J (t := t) (T := ((T.1 + 1, fup T.2.1 (2 * l) (some s), T.2.2.1, fup T.2.2.2 l (some p)) : TrS)) (l := l) hwc_9 ((show l < 2 ^ (T.1 + 1) by omega))) dX10_adds_69 rfl (rc_in B (ci := 5) rfl (k := 0) rfl (TreeP.hm hwc_9)) rfl q2494 q2495 q2496 q123 q2497 rfl rfl moX10_way rfl rfl (by decide) (by decide) (Nat.le_of_ble_eq_true rfl) (Nat.le_of_ble_eq_true rfl) (Nat.le_of_ble_eq_true rfl) (fun _ _ hx => noX_x hx) (fun v69 L1 hp69 => ?_)
      obtain ⟨p69, cap69, u1_69, rfl, rfl, hu1_69, hcp_69⟩ := hp69
      refine (show Go g κ 72 [some (.ref t), some (.int (nI p)), some (.int (nI s)), some (.int (nI l)), none, none] [.ref p69] [wc_9, u1_69] 1 4 from ?_)
      have hr_10 : LhP g (BxE g) p69 (wayD (T.1 + 1) l) cap69 u1_69 := hu1_69
      obtain ⟨ps_11, md_11, hli_11, hln_11, hel_11⟩ := LhP.at (Sub.self hr_10)
      refine g_callF (q := 77) (is := [1]) (kc2 := 0) (ks2 := 0) B [] (ct_J2_iterator_s g J (p := p69) (xs := ps_11) (md := md_11) (cap := cap69) (W0 := u1_69)  (hli_11)) dX10_adds_72 rfl (ci := 21) rfl (rc_in B (ci := 21) rfl (k := 1) rfl (LhP.hm hr_10)) q2514 q1156 q805 q81 q807 q1155 q1154 q806 q804 q318 rfl rfl mojava_util_List_iterator___Ljava_util_Iterator_ rfl rfl (by decide) (by decide) (Nat.le_of_ble_eq_true rfl) (Nat.le_of_ble_eq_true rfl) (Nat.le_of_ble_eq_true rfl) (fun _ _ hx => noX_x hx) (fun v72 L1 hp72 => ?_)
      obtain ⟨it72, rfl, rfl⟩ := hp72
      refine (show Go g κ 77 [some (.ref t), some (.int (nI p)), some (.int (nI s)), some (.int (nI l)), none, none] [.ref it72] [wc_9, [(it72, .inr (22, [.int (nI 0), .int (-1), .int md_11, .ref p69]))], u1_69] 0 0 from ?_)
      refine g_astore (q := 79) (lv2 := [some (.ref t), some (.int (nI p)), some (.int (nI s)), some (.int (nI l)), some (.ref it72), none]) B dX10_adds_77 rfl (Nat.le_of_ble_eq_true rfl) (rv_r _) rfl ?_
      have lp79 : ∀ (n79 : Nat) (k : Nat) (lr : Int32) (l79_0 : va_W), TreeP g t (latF ((T.1 + 1, fup T.2.1 (2 * l) (some s), T.2.2.1, fup T.2.2.2 l (some p)) : TrS) l (inW k l)) l79_0 → (k ≤ (wayD (T.1 + 1) l).length) → (wayD (T.1 + 1) l).length - k = n79 → Go g κ 79 [some (.ref t), some (.int (nI p)), some (.int (nI s)), some (.int (nI l)), some (.ref it72), none] [] [l79_0, [(it72, .inr (22, [.int (nI k), .int lr, .int md_11, .ref p69]))], u1_69] 0 0 := by
        intro n79
        induction n79 using Nat.strongRecOn with
        | _ n79 ih79 =>
        intro k lr l79_0 hl79_0 hk hmu79
        refine g_aload (q := 81) B dX10_adds_79 rfl rfl (rv_r _) ?_
        refine g_callF (q := 86) (is := [1, 1]) (kc2 := 0) (ks2 := 0) B [] (ct_J19_hasNext_s g J (p := p69) (xs := ps_11) (md := md_11) (cap := cap69) (it := it72) (c := k) (lr := lr) (W1 := u1_69)  (hli_11) (by have := hln_11.1; omega)) dX10_adds_81 rfl (ci := 22) rfl (rc_at B (ci := 22) rfl (k := 1) rfl) q2516 q940 q942 q104 q944 q938 q937 q943 q941 q939 rfl rfl mojava_util_Iterator_hasNext___Z rfl rfl (by decide) (by decide) (Nat.le_of_ble_eq_true rfl) (Nat.le_of_ble_eq_true rfl) (Nat.le_of_ble_eq_true rfl) (fun _ _ hx => noX_x hx) (fun v81 L1 hp81 => ?_)
        obtain ⟨rfl, rfl⟩ := hp81
        refine (show Go g κ 86 [some (.ref t), some (.int (nI p)), some (.int (nI s)), some (.int (nI l)), some (.ref it72), none] [.int (nI (if ¬ k = ps_11.length then 1 else 0))] [l79_0, [(it72, .inr (22, [.int (nI k), .int lr, .int md_11, .ref p69]))], u1_69] 0 0 from ?_)
        rw [hln_11.1]
        refine (show Go g κ 86 [some (.ref t), some (.int (nI p)), some (.int (nI s)), some (.int (nI l)), some (.ref it72), none] [.int (nI (if ¬ k = (wayD (T.1 + 1) l).length then 1 else 0))] [l79_0, [(it72, .inr (22, [.int (nI k), .int lr, .int md_11, .ref p69]))], u1_69] 0 0 from ?_)
        refine g_if_eq (tgt := 133) (q := 89) B dX10_adds_86 rfl (by decide) (bo_eq) (fun c86 => ?_) (fun c86 => ?_)
        · skip
          have hr_12 : TreeP g t (addT T p s) l79_0 := by rw [addT_e hfr hd]; have z := hl79_0; rw [show k = (T.1 + 1) by omega] at z; exact z
          refine g_iload_n (q := 134) B dX10_adds_133 rfl rfl ?_
          refine g_pk [0] rfl rfl ?_
          refine (show Go g κ 134 [some (.ref t), some (.int (nI p)), some (.int (nI s)), some (.int (nI l)), some (.ref it72), none] [.int (nI l)] [l79_0] 0 0 from ?_)
          exact g_iret B E dX10_adds_134 (⟨_, by rw [hfr], rfl, hr_12⟩)
        · skip
          have c86 := Classical.not_not.mp c86
          refine g_aload (q := 91) B dX10_adds_89 rfl rfl (rv_r _) ?_
          obtain ⟨x91, hx91⟩ := get_ex (xs := ps_11) (i := k) (by have := get_lt2 (show (wayD (T.1 + 1) l)[k]? = some (nab l (k + 1)) from (wayD_get (show k < (T.1 + 1) by omega))); have := hln_11.1; omega)
          have hb_13 := Sub.box (hel_11 _ _ _ hx91 (show (wayD (T.1 + 1) l)[k]? = some (nab l (k + 1)) from (wayD_get (show k < (T.1 + 1) by omega))))
          refine g_callF (q := 96) (is := [1, 1]) (kc2 := 0) (ks2 := 0) B [] (ct_J19_next_s g J (p := p69) (xs := ps_11) (md := md_11) (cap := cap69) (it := it72) (c := k) (lr := lr) (x := x91) (W1 := u1_69)  (hli_11) (hx91)) dX10_adds_91 rfl (ci := 22) rfl (rc_at B (ci := 22) rfl (k := 1) rfl) q2518 q967 q969 q104 q971 q966 q965 q970 q968 q939 rfl rfl mojava_util_Iterator_next___Ljava_lang_Object_ rfl rfl (by decide) (by decide) (Nat.le_of_ble_eq_true rfl) (Nat.le_of_ble_eq_true rfl) (Nat.le_of_ble_eq_true rfl) (fun _ _ hx => noX_x hx) (fun v91 L1 hp91 => ?_)
          obtain ⟨rfl, rfl⟩ := hp91
          refine (show Go g κ 96 [some (.ref t), some (.int (nI p)), some (.int (nI s)), some (.int (nI l)), some (.ref it72), none] [.ref x91] [l79_0, [(it72, .inr (22, [.int (nI (k + 1)), .int (nI k), .int md_11, .ref p69]))], u1_69] 0 0 from ?_)
          refine g_castRS (ci := 35) (q := 99) B rfl (rc_bxat B J (k := 2) rfl hb_13) dX10_adds_96 rfl q2519 ?_
          refine g_callV (q := 102) (is := [2]) (kc2 := 0) (ks2 := 0) B [] (ct_J26_intValue_b g J (a := x91) (v := nI (nab l (k + 1))) (wb := u1_69)  (hb_13)) dX10_adds_99 rfl (rc_bxat B J (k := 2) rfl hb_13) rfl q2520 q1052 q1053 q111 q1054 rfl rfl moJ26_intValue rfl rfl (by decide) (by decide) (Nat.le_of_ble_eq_true rfl) (Nat.le_of_ble_eq_true rfl) (Nat.le_of_ble_eq_true rfl) (fun _ _ hx => noX_x hx) (fun v99 L1 hp99 => ?_)
          obtain ⟨rfl, rfl⟩ := hp99
          refine (show Go g κ 102 [some (.ref t), some (.int (nI p)), some (.int (nI s)), some (.int (nI l)), some (.ref it72), none] [.int (nI (nab l (k + 1)))] [l79_0, [(it72, .inr (22, [.int (nI (k + 1)), .int (nI k), .int md_11, .ref p69]))], u1_69] 0 0 from ?_)
          have hnc : nab l (k + 1) < 31 := nab_b (k + 1) (by omega) l (by omega)
          obtain ⟨as_q, al_q, ap_q, fs_q, fl_q, fp_q, hB_q, hfs_q, hfl_q, hfp_q, rfl⟩ := hl79_0
          refine g_open 0 rfl rfl rfl ?_
          refine (show Go g κ 102 [some (.ref t), some (.int (nI p)), some (.int (nI s)), some (.int (nI l)), some (.ref it72), none] [.int (nI (nab l (k + 1)))] [[(it72, .inr (22, [.int (nI (k + 1)), .int (nI k), .int md_11, .ref p69]))], u1_69, [(t, .inr (5, [.int (nI (2 ^ (latF ((T.1 + 1, fup T.2.1 (2 * l) (some s), T.2.2.1, fup T.2.2.2 l (some p)) : TrS) l (inW k l)).1)), .ref as_q, .ref al_q, .ref ap_q]))], [(as_q, .inl (g.2.1 0, 31, .inl fs_q))], [(al_q, .inl (g.2.1 0, 31, .inl fl_q))], [(ap_q, .inl (g.2.1 0, 16, .inl fp_q))]] 0 0 from ?_)
          refine g_istore (q := 104) (lv2 := [some (.ref t), some (.int (nI p)), some (.int (nI s)), some (.int (nI l)), some (.ref it72), some (.int (nI (nab l (k + 1))))]) B dX10_adds_102 rfl (Nat.le_of_ble_eq_true rfl) rfl ?_
          refine g_aload_n (q := 105) B dX10_adds_104 rfl rfl (rv_r _) ?_
          refine g_get (q := 108) B (ci := 5) (k := 2) (j := 2) in_X10 rfl dX10_adds_105 rfl rfl (Nat.le_of_ble_eq_true rfl) q2041 rfl rfl ?_
          refine g_iload (q := 110) B dX10_adds_108 rfl rfl ?_
          refine g_dup2_11 (q := 111) B dX10_adds_110 rfl rfl rfl ?_
          refine g_iald (v := nI (((latF ((T.1 + 1, fup T.2.1 (2 * l) (some s), T.2.2.1, fup T.2.2.2 l (some p)) : TrS) l (inW k l)).2.2.1) (nab l (k + 1)))) (q := 112) B (k := 4) dX10_adds_111 rfl rfl (vp_in_nI (by omega) (by omega)) (by rw [nI_clamp (by omega)]; exact hfl_q _ (by omega)) ?_
          refine g_aload_n (q := 113) B dX10_adds_112 rfl rfl (rv_r _) ?_
          refine g_iload (q := 115) B dX10_adds_113 rfl rfl ?_
          refine g_callV (q := 118) (is := [2, 2]) (kc2 := 0) (ks2 := 0) B [.int (nI (nab l (k + 1)))] (ct_X10_isBlank_o g J (t := t) (n := (nab l (k + 1))) (lv := 2 ^ (latF ((T.1 + 1, fup T.2.1 (2 * l) (some s), T.2.2.1, fup T.2.2.2 l (some p)) : TrS) l (inW k l)).1) (as := as_q) (al := al_q) (ap := ap_q) (fs := fs_q) (F := ((T.1 + 1, fup T.2.1 (2 * l) (some s), T.2.2.1, fup T.2.2.2 l (some p)) : TrS).2.1)  (by omega) (hfs_q) (hB2.2.1)) dX10_adds_115 rfl (rc_at B (ci := 5) rfl (k := 2) rfl) rfl q2553 q1145 q1146 q123 q1147 rfl rfl moX10_isBlank rfl rfl (by decide) (by decide) (Nat.le_of_ble_eq_true rfl) (Nat.le_of_ble_eq_true rfl) (Nat.le_of_ble_eq_true rfl) (fun _ _ hx => noX_x hx) (fun v115 L1 hp115 => ?_)
          obtain ⟨rfl, rfl⟩ := hp115
          refine (show Go g κ 118 [some (.ref t), some (.int (nI p)), some (.int (nI s)), some (.int (nI l)), some (.ref it72), some (.int (nI (nab l (k + 1))))] [.int (nI (if (((T.1 + 1, fup T.2.1 (2 * l) (some s), T.2.2.1, fup T.2.2.2 l (some p)) : TrS).2.1) (nab l (k + 1)) = none then 1 else 0)), .int (nI (((latF ((T.1 + 1, fup T.2.1 (2 * l) (some s), T.2.2.1, fup T.2.2.2 l (some p)) : TrS) l (inW k l)).2.2.1) (nab l (k + 1)))), .int (nI (nab l (k + 1))), .ref al_q] [[(it72, .inr (22, [.int (nI (k + 1)), .int (nI k), .int md_11, .ref p69]))], u1_69, [(al_q, .inl (g.2.1 0, 31, .inl fl_q))], [(ap_q, .inl (g.2.1 0, 16, .inl fp_q))], [(t, .inr (5, [.int (nI (2 ^ (latF ((T.1 + 1, fup T.2.1 (2 * l) (some s), T.2.2.1, fup T.2.2.2 l (some p)) : TrS) l (inW k l)).1)), .ref as_q, .ref al_q, .ref ap_q]))], [(as_q, .inl (g.2.1 0, 31, .inl fs_q))]] 0 0 from ?_)
          refine g_if_eq (tgt := 125) (q := 121) B dX10_adds_118 rfl (by decide) (bo_eq) (fun c118 => ?_) (fun c118 => ?_)
          · skip
            refine g_iconst (v := nI 1) (q := 126) B dX10_adds_125 rfl (by decide) ?_
            refine g_iload_n (q := 127) B dX10_adds_126 rfl rfl ?_
            refine g_ishl (v := nI (2 ^ l)) (q := 128) B dX10_adds_127 rfl (shl_J l (by omega)) ?_
            refine g_ior (v := nI ((((latF ((T.1 + 1, fup T.2.1 (2 * l) (some s), T.2.2.1, fup T.2.2.2 l (some p)) : TrS) l (inW k l)).2.2.1) (nab l (k + 1))) ||| 2 ^ l)) (q := 129) B dX10_adds_128 rfl (nI_or _ _) ?_
            refine g_iast (q := 130) (L2 := [[(it72, .inr (22, [.int (nI (k + 1)), .int (nI k), .int md_11, .ref p69]))], u1_69, [(al_q, .inl (g.2.1 0, 31, .inl (upd fl_q (nab l (k + 1)) (nI ((((latF ((T.1 + 1, fup T.2.1 (2 * l) (some s), T.2.2.1, fup T.2.2.2 l (some p)) : TrS) l (inW k l)).2.2.1) (nab l (k + 1))) ||| 2 ^ l)))))], [(ap_q, .inl (g.2.1 0, 16, .inl fp_q))], [(t, .inr (5, [.int (nI (2 ^ (latF ((T.1 + 1, fup T.2.1 (2 * l) (some s), T.2.2.1, fup T.2.2.2 l (some p)) : TrS) l (inW k l)).1)), .ref as_q, .ref al_q, .ref ap_q]))], [(as_q, .inl (g.2.1 0, 31, .inl fs_q))]]) B (k := 2) dX10_adds_129 rfl rfl (vp_in_nI (by omega) (by omega)) (by rw [nI_clamp (by omega)] <;> rfl) ?_
            obtain ⟨f129, ef129⟩ : ∃ f : Nat → Int32, f = upd fl_q (nab l (k + 1)) (nI ((((latF ((T.1 + 1, fup T.2.1 (2 * l) (some s), T.2.2.1, fup T.2.2.2 l (some p)) : TrS) l (inW k l)).2.2.1) (nab l (k + 1))) ||| 2 ^ l)) := ⟨_, rfl⟩
            have hf129 : ∀ i, i < 31 → f129 i = nI (fup ((latF ((T.1 + 1, fup T.2.1 (2 * l) (some s), T.2.2.1, fup T.2.2.2 l (some p)) : TrS) l (inW k l)).2.2.1) (nab l (k + 1)) ((((latF ((T.1 + 1, fup T.2.1 (2 * l) (some s), T.2.2.1, fup T.2.2.2 l (some p)) : TrS) l (inW k l)).2.2.1) (nab l (k + 1))) ||| 2 ^ l) i) := by rw [ef129]; exact upd_nI hfl_q _ ((((latF ((T.1 + 1, fup T.2.1 (2 * l) (some s), T.2.2.1, fup T.2.2.2 l (some p)) : TrS) l (inW k l)).2.2.1) (nab l (k + 1))) ||| 2 ^ l)
            rw [← ef129]
            refine (show Go g κ 130 [some (.ref t), some (.int (nI p)), some (.int (nI s)), some (.int (nI l)), some (.ref it72), some (.int (nI (nab l (k + 1))))] [] [[(it72, .inr (22, [.int (nI (k + 1)), .int (nI k), .int md_11, .ref p69]))], u1_69, [(al_q, .inl (g.2.1 0, 31, .inl f129))], [(ap_q, .inl (g.2.1 0, 16, .inl fp_q))], [(t, .inr (5, [.int (nI (2 ^ (latF ((T.1 + 1, fup T.2.1 (2 * l) (some s), T.2.2.1, fup T.2.2.2 l (some p)) : TrS) l (inW k l)).1)), .ref as_q, .ref al_q, .ref ap_q]))], [(as_q, .inl (g.2.1 0, 31, .inl fs_q))]] 0 0 from ?_)
            obtain ⟨wc_14, ewc_14⟩ : ∃ w : va_W, w = ([[(t, .inr (5, [.int (nI (2 ^ (latF ((T.1 + 1, fup T.2.1 (2 * l) (some s), T.2.2.1, fup T.2.2.2 l (some p)) : TrS) l (inW k l)).1)), .ref as_q, .ref al_q, .ref ap_q]))], [(as_q, .inl (g.2.1 0, 31, .inl fs_q))], [(al_q, .inl (g.2.1 0, 31, .inl f129))], [(ap_q, .inl (g.2.1 0, 16, .inl fp_q))]] : List va_W).flatten := ⟨_, rfl⟩
            have hwc_14 : TreeP g t (latF ((T.1 + 1, fup T.2.1 (2 * l) (some s), T.2.2.1, fup T.2.2.2 l (some p)) : TrS) l (inW (k + 1) l)) wc_14 := by
              rw [ewc_14]
              exact ⟨as_q, al_q, ap_q, fs_q, f129, fp_q, (TrB.latF hB2 hl16 _), hfs_q, (by have z := latF_s ((T.1 + 1, fup T.2.1 (2 * l) (some s), T.2.2.1, fup T.2.2.2 l (some p)) : TrS) l (inW_s k l) (inW_new k (by omega) l hl16) c118; rw [← z]; exact hf129), hfp_q, rfl⟩
            refine g_close (w := wc_14) [4, 4, 2, 2] rfl ewc_14 rfl ?_
            refine (show Go g κ 130 [some (.ref t), some (.int (nI p)), some (.int (nI s)), some (.int (nI l)), some (.ref it72), some (.int (nI (nab l (k + 1))))] [] [[(it72, .inr (22, [.int (nI (k + 1)), .int (nI k), .int md_11, .ref p69]))], u1_69, wc_14] 0 0 from ?_)
            refine g_goto (tgt := 79) B dX10_adds_130 (by decide) ?_
            refine g_fg 5 rfl ?_
            refine g_pk [2, 0, 0] rfl rfl ?_
            refine (show Go g κ 79 [some (.ref t), some (.int (nI p)), some (.int (nI s)), some (.int (nI l)), some (.ref it72), none] [] [wc_14, [(it72, .inr (22, [.int (nI (k + 1)), .int (nI k), .int md_11, .ref p69]))], u1_69] 0 0 from ?_)
            exact ih79 _ (by omega) (k + 1) (nI k) wc_14 hwc_14 (by first | assumption | omega | rfl) rfl
          · skip
            have c118 := Classical.not_not.mp c118
            refine g_iconst (v := nI 0) (q := 122) B dX10_adds_121 rfl (by decide) ?_
            refine g_goto (tgt := 128) B dX10_adds_122 (by decide) ?_
            refine g_ior (v := nI (((latF ((T.1 + 1, fup T.2.1 (2 * l) (some s), T.2.2.1, fup T.2.2.2 l (some p)) : TrS) l (inW k l)).2.2.1) (nab l (k + 1)))) (q := 129) B dX10_adds_128 rfl (nI_la _) ?_
            refine g_iast (q := 130) (L2 := [[(it72, .inr (22, [.int (nI (k + 1)), .int (nI k), .int md_11, .ref p69]))], u1_69, [(al_q, .inl (g.2.1 0, 31, .inl (upd fl_q (nab l (k + 1)) (nI (((latF ((T.1 + 1, fup T.2.1 (2 * l) (some s), T.2.2.1, fup T.2.2.2 l (some p)) : TrS) l (inW k l)).2.2.1) (nab l (k + 1)))))))], [(ap_q, .inl (g.2.1 0, 16, .inl fp_q))], [(t, .inr (5, [.int (nI (2 ^ (latF ((T.1 + 1, fup T.2.1 (2 * l) (some s), T.2.2.1, fup T.2.2.2 l (some p)) : TrS) l (inW k l)).1)), .ref as_q, .ref al_q, .ref ap_q]))], [(as_q, .inl (g.2.1 0, 31, .inl fs_q))]]) B (k := 2) dX10_adds_129 rfl rfl (vp_in_nI (by omega) (by omega)) (by rw [nI_clamp (by omega)] <;> rfl) ?_
            obtain ⟨f129, ef129⟩ : ∃ f : Nat → Int32, f = upd fl_q (nab l (k + 1)) (nI (((latF ((T.1 + 1, fup T.2.1 (2 * l) (some s), T.2.2.1, fup T.2.2.2 l (some p)) : TrS) l (inW k l)).2.2.1) (nab l (k + 1)))) := ⟨_, rfl⟩
            have hf129 : ∀ i, i < 31 → f129 i = nI (fup ((latF ((T.1 + 1, fup T.2.1 (2 * l) (some s), T.2.2.1, fup T.2.2.2 l (some p)) : TrS) l (inW k l)).2.2.1) (nab l (k + 1)) (((latF ((T.1 + 1, fup T.2.1 (2 * l) (some s), T.2.2.1, fup T.2.2.2 l (some p)) : TrS) l (inW k l)).2.2.1) (nab l (k + 1))) i) := by rw [ef129]; exact upd_nI hfl_q _ (((latF ((T.1 + 1, fup T.2.1 (2 * l) (some s), T.2.2.1, fup T.2.2.2 l (some p)) : TrS) l (inW k l)).2.2.1) (nab l (k + 1)))
            rw [← ef129]
            refine (show Go g κ 130 [some (.ref t), some (.int (nI p)), some (.int (nI s)), some (.int (nI l)), some (.ref it72), some (.int (nI (nab l (k + 1))))] [] [[(it72, .inr (22, [.int (nI (k + 1)), .int (nI k), .int md_11, .ref p69]))], u1_69, [(al_q, .inl (g.2.1 0, 31, .inl f129))], [(ap_q, .inl (g.2.1 0, 16, .inl fp_q))], [(t, .inr (5, [.int (nI (2 ^ (latF ((T.1 + 1, fup T.2.1 (2 * l) (some s), T.2.2.1, fup T.2.2.2 l (some p)) : TrS) l (inW k l)).1)), .ref as_q, .ref al_q, .ref ap_q]))], [(as_q, .inl (g.2.1 0, 31, .inl fs_q))]] 0 0 from ?_)
            obtain ⟨wc_15, ewc_15⟩ : ∃ w : va_W, w = ([[(t, .inr (5, [.int (nI (2 ^ (latF ((T.1 + 1, fup T.2.1 (2 * l) (some s), T.2.2.1, fup T.2.2.2 l (some p)) : TrS) l (inW k l)).1)), .ref as_q, .ref al_q, .ref ap_q]))], [(as_q, .inl (g.2.1 0, 31, .inl fs_q))], [(al_q, .inl (g.2.1 0, 31, .inl f129))], [(ap_q, .inl (g.2.1 0, 16, .inl fp_q))]] : List va_W).flatten := ⟨_, rfl⟩
            have hwc_15 : TreeP g t (latF ((T.1 + 1, fup T.2.1 (2 * l) (some s), T.2.2.1, fup T.2.2.2 l (some p)) : TrS) l (inW (k + 1) l)) wc_15 := by
              rw [ewc_15]
              exact ⟨as_q, al_q, ap_q, fs_q, f129, fp_q, (TrB.latF hB2 hl16 _), hfs_q, (by rw [← latF_n ((T.1 + 1, fup T.2.1 (2 * l) (some s), T.2.2.1, fup T.2.2.2 l (some p)) : TrS) l (inW_s k l) c118]; intro i hi; rw [hf129 i hi, fup_self]), hfp_q, rfl⟩
            refine g_close (w := wc_15) [4, 4, 2, 2] rfl ewc_15 rfl ?_
            refine (show Go g κ 130 [some (.ref t), some (.int (nI p)), some (.int (nI s)), some (.int (nI l)), some (.ref it72), some (.int (nI (nab l (k + 1))))] [] [[(it72, .inr (22, [.int (nI (k + 1)), .int (nI k), .int md_11, .ref p69]))], u1_69, wc_15] 0 0 from ?_)
            refine g_goto (tgt := 79) B dX10_adds_130 (by decide) ?_
            refine g_fg 5 rfl ?_
            refine g_pk [2, 0, 0] rfl rfl ?_
            refine (show Go g κ 79 [some (.ref t), some (.int (nI p)), some (.int (nI s)), some (.int (nI l)), some (.ref it72), none] [] [wc_15, [(it72, .inr (22, [.int (nI (k + 1)), .int (nI k), .int md_11, .ref p69]))], u1_69] 0 0 from ?_)
            exact ih79 _ (by omega) (k + 1) (nI k) wc_15 hwc_15 (by first | assumption | omega | rfl) rfl
      have hr_16 : TreeP g t (latF ((T.1 + 1, fup T.2.1 (2 * l) (some s), T.2.2.1, fup T.2.2.2 l (some p)) : TrS) l (inW 0 l)) wc_9 := by rw [latF_0 _ l (inW_0 l)]; exact hwc_9
      exact lp79 _ 0 (-1) wc_9 hr_16 (Nat.zero_le _) rfl
  refine g_iconst (v := nI 0) (q := 1) B dX10_adds_0 rfl (by decide) ?_
  refine g_istore_n (q := 2) (lv2 := [some (.ref t), some (.int (nI p)), some (.int (nI s)), some (.int (nI 0)), none, none]) B dX10_adds_1 rfl (Nat.le_of_ble_eq_true rfl) rfl ?_
  have lp2 : ∀ (n2 : Nat) (l : Nat) , (l ≤ 2 ^ T.1) → (∀ i, i < l → T.2.2.2 i ≠ none) → 2 ^ T.1 - l = n2 → Go g κ 2 [some (.ref t), some (.int (nI p)), some (.int (nI s)), some (.int (nI l)), none, none] [] [w0] 3 17 := by
    intro n2
    induction n2 using Nat.strongRecOn with
    | _ n2 ih2 =>
    intro l  hl hlf hmu2
    refine g_iload_n (q := 3) B dX10_adds_2 rfl rfl ?_
    refine g_aload_n (q := 4) B dX10_adds_3 rfl rfl (rv_r _) ?_
    obtain ⟨as_17, al_17, ap_17, fs_17, fl_17, fp_17, hB_17, hfs_17, hfl_17, hfp_17, hc_17_0, hc_17_1, hc_17_2, hc_17_3⟩ := TreeP.at (Sub.self hw0)
    refine g_getM (q := 7) B (ci := 5) (k := 0) (j := 0) in_X10 rfl dX10_adds_4 rfl rfl (hc_17_0) (Nat.le_of_ble_eq_true rfl) q2035 rfl rfl ?_
    refine g_icmp_ge (tgt := 26) (q := 10) B dX10_adds_7 rfl (by decide) (nI_leI (by omega) (by omega)) (fun c7 => ?_) (fun c7 => ?_)
    · skip
      exact ct26 l (by first | assumption | omega | rfl) (by first | assumption | omega | rfl) (Or.inl (by omega))
    · skip
      refine g_aload_n (q := 11) B dX10_adds_10 rfl rfl (rv_r _) ?_
      refine g_getM (q := 14) B (ci := 5) (k := 0) (j := 3) in_X10 rfl dX10_adds_11 rfl rfl (hc_17_0) (Nat.le_of_ble_eq_true rfl) q2043 rfl rfl ?_
      refine g_iload_n (q := 15) B dX10_adds_14 rfl rfl ?_
      refine g_ialdM (v := oI (T.2.2.2 l)) (q := 16) B (k := 0) dX10_adds_15 rfl rfl (hc_17_3) (vp_in_nI (by omega) (by omega)) (by rw [nI_clamp (by omega)]; exact hfp_17 _ (by omega)) ?_
      refine g_iconst (v := -1) (q := 17) B dX10_adds_16 rfl (by decide) ?_
      refine g_icmp_eq (tgt := 26) (q := 20) B dX10_adds_17 rfl (by decide) (oI_n ((fun n h => by have := hB_17.2.2.2 _ _ h; omega))) (fun c17 => ?_) (fun c17 => ?_)
      · skip
        exact ct26 l (by first | assumption | omega | rfl) (by first | assumption | omega | rfl) (Or.inr c17)
      · skip
        obtain ⟨v17, ev17⟩ := Option.ne_none_iff_exists'.mp c17
        refine g_iinc (v := nI (l + 1)) (q := 23) (lv2 := [some (.ref t), some (.int (nI p)), some (.int (nI s)), some (.int (nI (l + 1))), none, none]) B dX10_adds_20 rfl rfl (nI_add _ 1) (Nat.le_of_ble_eq_true rfl) rfl ?_
        refine g_goto (tgt := 2) B dX10_adds_23 (by decide) ?_
        exact ih2 _ (by omega) (l + 1) (by omega) (fun i hi => by rcases Nat.lt_or_ge i l with z | z; exact hlf i z; rw [show i = l by omega, ev17]; simp) rfl
  exact lp2 _ 0 (Nat.zero_le _) (fun i h => absurd h (Nat.not_lt_zero i)) rfl
