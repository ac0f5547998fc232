set_option maxRecDepth 100000
/-! ===== isSound and checksum ===== -/
section
variable {C : KsS} {D : MdS} {T : TrS} {Ep : MeS}
theorem hjM_y {i e : Nat} {r : PeS} {q : MpS} (h : Inv C D) (hr : (zPs C)[i]? = some r) (hw : PeW (zSs C) (dSs D) (zTs C) (dEs D) (dKs D) i r q) (he : pEp r = some e) (hE : (dEs D)[e]? = some Ep) : (List.range (2 * 2 ^ (eTr Ep).1 - 1)).all (hjM Ep q) = true := by
  obtain ⟨T, Ep2, a1, a2, a3, a4, a5, a6, a7, a8, a9, b1, b2, b3⟩ := hw.2.2.2.2.2 e he
  rw [hE] at a2; cases a2
  have hTI := h.tr T (List.mem_of_getElem? a1)
  have hQ := (h.2.2.2.2.2.2.2.2.1.2 e T Ep a1 hE).2.2.1
  rw [List.all_eq_true]
  intro n hn
  have hn := List.mem_range.mp hn
  rw [← hQ.1] at hn
  unfold hjM
  rcases Nat.eq_zero_or_pos (lev n) with z | z
  · simp [z]
  · have h5 := a5 n
    have h6 := a6 n z
    have hq := hQ.2.1 n
    unfold ownM
    rw [a4, ← hQ.2.2.1]
    by_cases c : cvr n (pLf r) = true ∧ ¬ hsB (T.2.2.1 n) (pLf r) = true
    · rw [if_pos ⟨c.1, hn, c.2⟩] at h5
      rw [h5] at h6
      have e2 : mNd q n = (eTr Ep).2.1 n := by
        rcases h6 with ⟨w1, w2⟩ | ⟨a, b, w1, w2, w3⟩
        · rcases hq with ⟨v1, v2⟩ | ⟨a', b', v1, v2, v3⟩
          · rw [w2, v2]
          · rw [w1] at v1; cases v1
        · rcases hq with ⟨v1, v2⟩ | ⟨a', b', v1, v2, v3⟩
          · rw [w1] at v1; cases v1
          · rw [w1] at v1; cases v1
            rw [w2, v2, w3.r h.sno.2 v3]
      rw [e2]
      simp [z, c.1, c.2]
    · rw [if_neg fun w => c ⟨w.1, w.2.2⟩] at h5
      rw [h5] at h6
      have e2 := h6.no.mp rfl
      rw [e2]
      by_cases c1 : cvr n (pLf r) = true
      · have c2 : hsB (T.2.2.1 n) (pLf r) = true := Classical.not_not.mp fun w => c ⟨c1, w⟩
        simp [c2]
      · simp [c1]
theorem hjB_y {r : PeS} (h : HJ T (pLf r) (pNd r)) : hjB T r = true := by
  unfold hjB
  rw [List.all_eq_true]
  intro n hn
  have hn := List.mem_range.mp hn
  have h5 := h n
  unfold hjC ownB
  by_cases c : cvr n (pLf r) = true ∧ ¬ hsB (T.2.2.1 n) (pLf r) = true
  · rw [if_pos ⟨c.1, hn, c.2⟩] at h5
    rw [h5]
    simp [c.1, c.2]
  · rw [if_neg fun w => c ⟨w.1, w.2.2⟩] at h5
    rw [h5]
    by_cases c1 : cvr n (pLf r) = true
    · have c2 : hsB (T.2.2.1 n) (pLf r) = true := Classical.not_not.mp fun w => c ⟨c1, w⟩
      simp [c2]
    · simp [c1]
theorem ep_q {i e : Nat} {r : PeS} {q : MpS} {E N E2 N2 : Nat → Bool} (h : Inv C D) (hw : PeW (zSs C) (dSs D) (zTs C) (dEs D) (dKs D) i r q) (hT : (zTs C)[e]? = some T) (hE : (dEs D)[e]? = some Ep) (h1 : Sq (zSs C) (dSs D) (fun x => E x = true) (fun x => E2 x = true)) (h2 : Sq (zSs C) (dSs D) (fun x => N x = true) (fun x => N2 x = true)) : epR C r E N e ↔ epM i q E2 N2 Ep := by
  have hQ := h.2.2.2.2.2.2.2.2.1.2 e T Ep hT hE
  obtain ⟨hno, -, hTQ, s, xn, hs, -⟩ := id hQ
  obtain ⟨-, ky, g1, g2⟩ := ep_ky h hs hE
  unfold epR epM
  rw [← lof_eq hTQ.1 hTQ.2.2.2 i, ← h1.at h.sno.1 h.sno.2 g2, ← h2.at h.sno.1 h.sno.2 g2, hw.2.1, hno, hw.1]
  constructor
  · intro z
    exact z s ky T hs g1 hT
  · intro z s2 ky2 T2 hs2 hk2 hT2
    rw [hs] at hs2; cases hs2
    rw [g1] at hk2; cases hk2
    rw [hT] at hT2; cases hT2
    exact z
theorem rgt_q {i : Nat} {r : PeS} {q : MpS} {E N E2 N2 : Nat → Bool} (h : Inv C D) (hr : (zPs C)[i]? = some r) (hw : PeW (zSs C) (dSs D) (zTs C) (dEs D) (dKs D) i r q) (h1 : Sq (zSs C) (dSs D) (fun x => E x = true) (fun x => E2 x = true)) (h2 : Sq (zSs C) (dSs D) (fun x => N x = true) (fun x => N2 x = true)) : rgtP C r E N ↔ rgtM D i q E2 N2 := by
  have hEL := h.2.2.2.2.2.2.2.2.1
  constructor
  · rintro ⟨z1, -, -⟩
    refine ⟨fun e Ep hE => ?_, fun hf Ep hE => ?_⟩
    · obtain ⟨T, hT, -⟩ := hEL.r hE
      exact (ep_q h hw hT hE h1 h2).mp (z1 e (get_lt2 hT))
    · obtain ⟨e, he, hel⟩ := isF_ln hf
      rw [show (dEs D).length - 1 = e by omega] at hE
      exact hjM_y h hr hw (by rw [← hw.2.1]; exact he) hE
  · rintro ⟨z1, -⟩
    refine ⟨fun e he => ?_, fun m s ky hm hs hk => ?_, fun hf T hT => ?_⟩
    · obtain ⟨T, hT⟩ := get_ex he
      obtain ⟨Ep, hE, -⟩ := hEL.l hT
      exact (ep_q h hw hT hE h1 h2).mpr (z1 e Ep hE)
    · obtain ⟨T, Ep, a1, a2, a3, a4, a5, a6, a7, a8, a9, b1, -⟩ := hw.2.2.2.2.2 m hm
      obtain ⟨-, ky2, g1, g2⟩ := ep_ky h hs a2
      rw [hk] at g1; cases g1
      exact b1.l h.sno.1 g2
    · obtain ⟨e, he, hel⟩ := isF_ln hf
      obtain ⟨T2, Ep, a1, a2, a3, a4, a5, -⟩ := hw.2.2.2.2.2 e he
      rw [show (zTs C).length - 1 = e by omega, a1] at hT
      cases hT
      exact hjB_y a5
theorem snd_q (h : Inv C D) : sndP C (zPs C).length ↔ sndM D (dPs D).length := by
  have hP := h.2.2.2.2.2.2.2.2.2.2.1
  constructor
  · intro z i q _ hq E2 N2 hE2 hN2
    obtain ⟨r, hr, ⟨hw, hev, -⟩, -⟩ := hP.r hq
    obtain ⟨E, hE⟩ := cl_bool fun x => ClQ (zSs C) (zBx C) (fun y => pEv r y = true) x
    obtain ⟨N, hN⟩ := cl_bool fun x => ClQ (zSs C) (zBx C) (helP (zKs C) r) x
    exact (rgt_q h hr hw (cl_he h hev hE hE2) (cl_he h (hel_q h.kk h.tr hw) hN hN2)).mp (z i r (get_lt2 hr) hr E N hE hN)
  · intro z i r _ hr E N hE hN
    obtain ⟨q, hq, ⟨hw, hev, -⟩, -⟩ := hP.l hr
    obtain ⟨E2, hE2⟩ := cl_bool fun x => ClQ (dSs D) (dBx D) (fun y => y ∈ mEv q) x
    obtain ⟨N2, hN2⟩ := cl_bool fun x => ClQ (dSs D) (dBx D) (helM (dKs D) (dEs D) i q) x
    exact (rgt_q h hr hw (cl_he h hev hE hE2) (cl_he h (hel_q h.kk h.tr hw) hN hN2)).mpr (z i q (get_lt2 hq) hq E2 N2 hE2 hN2)
theorem al_isSound {a b : Bool} (h : Inv C D) (ha : a = true ↔ sndP C (zPs C).length) (hb : b = true ↔ sndM D (dPs D).length) : a = b := by
  rw [Bool.eq_iff_iff, ha, hb, snd_q h]
theorem ckT_q (h : SqS (zSs C) (dSs D)) {U : TrS} (hQ : TrQ (zSs C) (dSs D) T U) (s : Int64) : ∀ k, ckT (zSs C) T s k = ckT (dSs D) U s k
  | 0 => rfl
  | k + 1 => by
    show ck1 (zSs C) T k (ckT (zSs C) T s k) = ck1 (dSs D) U k (ckT (dSs D) U s k)
    rw [ckT_q h hQ s k]
    unfold ck1
    rcases hQ.2.1 k with ⟨z1, z2⟩ | ⟨x, y, z1, z2, z3⟩
    · rw [z1, z2]
    · rw [z1, z2, hQ.2.2.1]
      show 31 * (31 * _ + (vl (zSs C) x).toInt64) + _ = 31 * (31 * _ + (vl (dSs D) y).toInt64) + _
      rw [h.vl z3]
theorem ckP_q (h : Inv C D) (hC : KsB C) (s : Int64) : ∀ k, k ≤ (zPs C).length → ckP C s k = ckPM D s k
  | 0, _ => rfl
  | k + 1, hk => by
    obtain ⟨r, hr⟩ := get_ex (xs := zPs C) (i := k) (by omega)
    obtain ⟨q, hq, ⟨hw, -, -⟩, -⟩ := h.2.2.2.2.2.2.2.2.2.2.1.l hr
    rw [ckP_s hr, ckPM_s hq, ckP_q h hC s k (by omega)]
    have hh := hel_q h.kk h.tr hw
    have hs : Sq (zSs C) (dSs D) (fun x => heB (zKs C) r x = true) (fun x => heM (dKs D) (dEs D) k q x = true) := hh.cg (fun x => by unfold heB; simp) (fun x => heM_i)
    have e1 : ckR C r = ckRM D k q := by
      unfold ckR ckRM
      have e2 : ctK (heB (zKs C) r) = fb_ct (heM (dKs D) (dEs D) k q) (dSs D).length := by
        unfold ctK
        exact Sq.ct h.sno.1 h.sno.2 (n := 2048) (m := (dSs D).length) (fun i z => by have := hs.ltl z; have := hC.1; omega) (fun j z => hs.lt z) hs
      rw [e2]
      cases e : pEp r with
      | none => rw [if_pos rfl, hw.2.1, e]
      | some ep =>
        rw [if_neg (by simp), hw.2.1, e]
        obtain ⟨T, Ep, a1, a2, a3, a4, a5, a6, a7, a8, a9, b1, -⟩ := hw.2.2.2.2.2 ep e
        show _ = (fb_ct _ _, match (dEs D)[ep]? with | none => nI 0 | some E => vl (dSs D) (eKy E))
        rw [a2, h.1.vl b1]
    rw [e1]
theorem al_checksum (h : Inv C D) (hC : KsB C) (hT : zTs C ≠ [] → TrQ (zSs C) (dSs D) T (eTr Ep)) : ckS C T = ckSM D Ep := by
  unfold ckS ckSM
  have hz : ckZ C = ckZM D := by unfold ckZ ckZM; rw [h.2.2.1, h.ln.2.2.2.1]
  rw [ckP_q h hC _ _ (Nat.le_refl _), h.ln.1, hz]
  by_cases e : zTs C = []
  · rw [if_pos e, if_pos (h.nil.mp e)]
  · rw [if_neg e, if_neg (fun z => e (h.nil.mpr z)), ckT_q h.1 (hT e), (hT e).1]
theorem blk_q {U : TrS} (h1 : ∀ n, T.2.1 n = none ↔ U.2.1 n = none) (k : Nat) : blk T k = blk U k := by
  unfold blk
  have e : (fun i => (T.2.1 i).isNone) = fun i => (U.2.1 i).isNone := by
    funext i
    rw [Bool.eq_iff_iff, Option.isNone_iff_eq_none, Option.isNone_iff_eq_none]
    exact h1 i
  rw [e]
end
