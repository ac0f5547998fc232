set_option maxRecDepth 100000
/-! ===== the readers answer alike: what is held and what can be found ===== -/
theorem Sq.bnot {ss tt : List Sec} (hs : NmOk ss) (ht : NmOk tt) {P Q K L : Nat → Prop} (h : Sq ss tt P Q) (h2 : Sq ss tt K L) : Sq ss tt (fun i => P i ∧ ¬ K i) (fun j => Q j ∧ ¬ L j) := by
  constructor
  · rintro i ⟨a, b⟩
    obtain ⟨j, hj, hq⟩ := h.1 i a
    exact ⟨j, ⟨hj, fun z => b ((h2.iff hs ht hq).mpr z)⟩, hq⟩
  · rintro j ⟨a, b⟩
    obtain ⟨i, hi, hq⟩ := h.2 j a
    exact ⟨i, ⟨hi, fun z => b ((h2.iff hs ht hq).mp z)⟩, hq⟩
section
variable {C C9 : KsS} {D : MdS} {T : TrS} {Ep : MeS} {v u : Int32} {k k2 : Nat} {f : Int64} {x : Int32} {b : Bool}
theorem Inv.so (h : Inv C D) : Sq (zSs C) (dSs D) (fun x => zSo C x = true) (fun y => y ∈ dSo D) := h.2.2.2.2.2.2.2.2.2.2.2.2.1
theorem Inv.bq (h : Inv C D) : Bq (zSs C) (dSs D) (zBx C) (dBx D) := h.2.2.2.2.2.1
theorem Inv.kk (h : Inv C D) : LQ (fun _ => PkQ (zSs C) (dSs D)) (zKs C) (dKs D) := h.2.2.2.2.2.2.1
theorem Inv.sno (h : Inv C D) : NmOk (zSs C) ∧ NmOk (dSs D) := ⟨h.1.1.1, h.1.2.1.1⟩
theorem cl_so (h : Inv C D) {K L : Nat → Bool} (hK : ∀ x, K x = true ↔ ClQ (zSs C) (zBx C) (fun v => zSo C v = true) x) (hL : ∀ x, L x = true ↔ ClK (dSs D) (dBx D) (dSo D) x) : Sq (zSs C) (dSs D) (fun x => K x = true) (fun x => L x = true) := by
  refine (h.so.clo h.1 h.bq).cg hK fun j => ?_
  rw [hL, ClQ.of (fun v => Iff.rfl)]
theorem cl_he (h : Inv C D) {P Q : Nat → Prop} (hP : Sq (zSs C) (dSs D) P Q) {K L : Nat → Bool} (hK : ∀ x, K x = true ↔ ClQ (zSs C) (zBx C) P x) (hL : ∀ x, L x = true ↔ ClQ (dSs D) (dBx D) Q x) : Sq (zSs C) (dSs D) (fun x => K x = true) (fun x => L x = true) := (hP.clo h.1 h.bq).cg hK hL
theorem Sq.at {ss tt : List Sec} (hs : NmOk ss) (ht : NmOk tt) {K L : Nat → Bool} (h : Sq ss tt (fun x => K x = true) (fun x => L x = true)) {i j : Nat} (hq : Nq ss tt i j) : K i = L j := by
  have := h.iff hs ht hq
  rw [Bool.eq_iff_iff]; exact this
theorem al_found (h : Inv C D) (hC : KsB C) {K L : Nat → Bool} (hf : f = (nI (ctK K)).toInt64) (hK : ∀ x, K x = true ↔ ClQ (zSs C) (zBx C) (fun v => zSo C v = true) x) (hx : x = nI (fb_ct L (dSs D).length)) (hL : ∀ x, L x = true ↔ ClK (dSs D) (dBx D) (dSo D) x) : f = x.toInt64 := by
  have hs := cl_so h hK hL
  rw [hf, hx]
  unfold ctK
  rw [Sq.ct h.sno.1 h.sno.2 (n := 2048) (m := (dSs D).length) (fun i z => by have := hs.ltl z; have := hC.1; omega) (fun j z => hs.lt z) hs]
theorem ep_ky (h : Inv C D) {e : Nat} {s : StS} {Ep : MeS} (hs : (zSt C)[e]? = some s) (hE : (dEs D)[e]? = some Ep) : s.2.2.1 < (zSs C).length ∧ ∃ ky, fnd (zSs C) (s.2.2.1, none, 6) = some ky ∧ Nq (zSs C) (dSs D) ky (eKy Ep) := by
  obtain ⟨T, hT, hQ⟩ := h.2.2.2.2.2.2.2.2.1.r hE
  obtain ⟨-, -, -, s2, xn, hs2, ⟨a1, a2, a3, -⟩, -⟩ := hQ
  rw [hs] at hs2; cases hs2
  obtain ⟨ky, h2⟩ := At.ex ((h.1.2.2.2 _).mpr a3.mem)
  exact ⟨a1.lt, ky, fnd_1 h.1.1 a1 h2, _, h2, a3⟩
theorem Inv.st (h : Inv C D) {e : Nat} {s : StS} (hs : (zSt C)[e]? = some s) : ∃ Ep, (dEs D)[e]? = some Ep := get_ex (by have := get_lt2 hs; have := h.2.2.2.2.2.2.2.2.2.1; have := h.2.2.2.2.2.2.2.2.1.1; omega)
theorem Inv.hky (h : Inv C D) : ∀ (e : Nat) (s : StS), (zSt C)[e]? = some s → s.2.2.1 < (zSs C).length ∧ ∃ ky, fnd (zSs C) (s.2.2.1, none, 6) = some ky := by
  intro e s hs
  obtain ⟨Ep, hE⟩ := h.st hs
  obtain ⟨h1, ky, h2, -⟩ := ep_ky h hs hE
  exact ⟨h1, ky, h2⟩
theorem Inv.hekl (h : Inv C D) : ∀ Ep ∈ dEs D, eKy Ep < (dSs D).length := by
  intro Ep hm
  obtain ⟨e, he⟩ := List.getElem?_of_mem hm
  obtain ⟨T, hT, -, -, -, s2, xn, hs2, ⟨a1, a2, a3, -⟩, -⟩ := h.2.2.2.2.2.2.2.2.1.r he
  exact a3.lt
theorem Inv.hego (h : Inv C D) : ∀ Ep ∈ dEs D, eGo Ep < (dSs D).length := by
  intro Ep hm
  obtain ⟨e, he⟩ := List.getElem?_of_mem hm
  obtain ⟨T, hT, -, -, -, s2, xn, hs2, ⟨a1, a2, a3, -⟩, -⟩ := h.2.2.2.2.2.2.2.2.1.r he
  exact a2.lt
theorem Inv.ms (h : Inv C D) : LQ (MsQ C D) (zMs C) (dMs D) := h.2.2.2.2.2.2.2.2.2.2.2.1
theorem Inv.hmb (h : Inv C D) (hC : KsB C) : ∀ r ∈ zMs C, r.2.2.2 < 1000 := by
  intro r hr
  obtain ⟨j, hj⟩ := List.getElem?_of_mem hr
  obtain ⟨p, -, hq⟩ := h.ms.l hj
  have := hq.2.2.2.1.lt.1
  have := hC.1
  omega
theorem Inv.hmtl (h : Inv C D) : ∀ r ∈ dMs D, r.2.2.2.2 < (dSs D).length := by
  intro r hr
  obtain ⟨j, hj⟩ := List.getElem?_of_mem hr
  obtain ⟨p, -, hq⟩ := h.ms.r hj
  exact hq.2.2.2.1.lt.2
theorem al_finds (h : Inv C D) (hC : KsB C) (hk : (k = 0 ∧ ∃ (i : Nat) (s : StS) (ky : Nat) (K : Nat → Bool), C9 = C ∧ (((K ky = true) → f = 1) ∧ (¬ (K ky = true) → f = 0)) ∧ (v = nI i) ∧ (i < (zTs C).length) ∧ ((zSt C)[i]? = some s) ∧ (fnd (zSs C) (s.2.2.1, none, 6) = some ky) ∧ (∀ x, K x = true ↔ ClQ (zSs C) (zBx C) (fun v => zSo C v = true) x)) ∨ (k = 1 ∧ C9 = C ∧ (¬ inR v (zTs C).length = true))) (hm : (k2 = 1 ∧ ¬ inR v (dEs D).length = true) ∨ (k2 = 0 ∧ ∃ (i : Nat) (Ep : MeS) (K : Nat → Bool), v = nI i ∧ (dEs D)[i]? = some Ep ∧ (∀ x, K x = true ↔ ClK (dSs D) (dBx D) (dSo D) x) ∧ b = K (eKy Ep))) : Al k C9 f k2 (nI (if b = true then 1 else 0)) (dT D k2) := by
  have hl := h.ln.2.2.2.1
  have hc := hC.2.2.2.2.2.1
  rcases hk with ⟨k0, i, s, ky, K, c, hf, hv, hi, hs, hky, hK⟩ | ⟨k0, c, hne⟩ <;> rcases hm with ⟨m0, hm⟩ | ⟨m0, j, Ep, L, hv2, hE, hL, hb⟩
  · exact absurd (inR_y hv (by rw [hl]; exact hi) (by omega)) hm
  · have e1 := ix_eq hv hv2 hi (get_lt2 hE) (by omega) (by omega)
    subst e1
    obtain ⟨-, ky2, g1, g2⟩ := ep_ky h hs hE
    rw [hky] at g1; cases g1
    subst c k0 m0
    refine ⟨rfl, fun _ => bl_q hf ?_, h⟩
    rw [hb, (cl_so h hK hL).at h.sno.1 h.sno.2 g2]
  · subst c k0 m0; exact Al.x (by decide) h
  · exact absurd (inR_y hv2 (by rw [← hl]; exact get_lt2 hE) (by omega)) hne
theorem al_findsText (h : Inv C D) (hC : KsB C) (hk : (k = 0 ∧ ∃ (i : Nat) (r : MsS) (K : Nat → Bool), C9 = C ∧ (((K r.2.2.2 = true) → f = 1) ∧ (¬ (K r.2.2.2 = true) → f = 0)) ∧ (v = nI i) ∧ ((zMs C)[i]? = some r) ∧ (∀ x, K x = true ↔ ClQ (zSs C) (zBx C) (fun v => zSo C v = true) x)) ∨ (k = 1 ∧ C9 = C ∧ (¬ inR v (zMs C).length = true))) (hm : (k2 = 1 ∧ ¬ inR v (dMs D).length = true) ∨ (k2 = 0 ∧ ∃ (i : Nat) (r : MmS) (K : Nat → Bool), v = nI i ∧ (dMs D)[i]? = some r ∧ (∀ x, K x = true ↔ ClK (dSs D) (dBx D) (dSo D) x) ∧ b = K (r.2.2.2.2))) : Al k C9 f k2 (nI (if b = true then 1 else 0)) (dT D k2) := by
  have hl := h.ln.2.2.2.2
  have hc := hC.2.2.2.2.2.2.2.1
  rcases hk with ⟨k0, i, r, K, c, hf, hv, hr, hK⟩ | ⟨k0, c, hne⟩ <;> rcases hm with ⟨m0, hm⟩ | ⟨m0, j, q, L, hv2, hq, hL, hb⟩
  · exact absurd (inR_y hv (by rw [hl]; exact get_lt2 hr) (by omega)) hm
  · have e1 := ix_eq hv hv2 (get_lt2 hr) (get_lt2 hq) (by omega) (by omega)
    subst e1
    have g2 := (h.ms.2 _ r q hr hq).2.2.2.1
    subst c k0 m0
    refine ⟨rfl, fun _ => bl_q hf ?_, h⟩
    rw [hb, (cl_so h hK hL).at h.sno.1 h.sno.2 g2]
  · subst c k0 m0; exact Al.x (by decide) h
  · exact absurd (inR_y hv2 (by rw [← hl]; exact get_lt2 hq) (by omega)) hne
theorem al_held (h : Inv C D) (hC : KsB C) (hk : (k = 0 ∧ ∃ (i : Nat) (r : PeS) (K : Nat → Bool), C9 = C ∧ (f = (nI (ctK K)).toInt64) ∧ (v = nI i) ∧ ((zPs C)[i]? = some r) ∧ (∀ x, K x = true ↔ helP (zKs C) r x)) ∨ (k = 1 ∧ C9 = C ∧ (¬ inR v (zPs C).length = true))) (hm : (k2 = 1 ∧ ¬ inR v (dPs D).length = true) ∨ (k2 = 0 ∧ ∃ (i : Nat) (r : MpS) (vs : List Nat), v = nI i ∧ (dPs D)[i]? = some r ∧ (∀ y, y ∈ vs ↔ helM (dKs D) (dEs D) i r y) ∧ vs.Nodup ∧ x = nI vs.length)) : Al k C9 f k2 x (dT D k2) := by
  have hl := h.ln.1
  have hc := hC.2.2.1
  rcases hk with ⟨k0, i, r, K, c, hf, hv, hr, hK⟩ | ⟨k0, c, hne⟩ <;> rcases hm with ⟨m0, hm⟩ | ⟨m0, j, q, vs, hv2, hq, hvs, hnd, hx⟩
  · exact absurd (inR_y hv (by rw [hl]; exact get_lt2 hr) (by omega)) hm
  · obtain ⟨e1, hw, -⟩ := h.pe hC hv hr hv2 hq
    subst e1
    have hh := hel_q h.kk h.tr hw
    have hs : Sq (zSs C) (dSs D) (fun i => i ∈ (List.range 2048).filter K) (fun j => j ∈ vs) := hh.cg (fun i => by
      rw [List.mem_filter, List.mem_range, hK]
      exact ⟨fun z => z.2, fun z => ⟨by have := hh.ltl z; have := hC.1; omega, z⟩⟩) hvs
    subst c k0 m0
    refine ⟨rfl, fun _ => ?_, h⟩
    rw [hf, hx]
    unfold ctK
    rw [ct_rng, hs.len h.sno.1 h.sno.2 (List.Nodup.sublist List.filter_sublist List.nodup_range) hnd]
  · subst c k0 m0; exact Al.x (by decide) h
  · exact absurd (inR_y hv2 (by rw [← hl]; exact get_lt2 hq) (by omega)) hne
theorem al_canRead (h : Inv C D) (hC : KsB C) (hk : (k = 0 ∧ ∃ (i : Nat) (r : PeS) (j : Nat) (m : MsS) (K : Nat → Bool), C9 = C ∧ (((K m.2.2.2 = true) → f = 1) ∧ (¬ (K m.2.2.2 = true) → f = 0)) ∧ (v = nI i) ∧ ((zPs C)[i]? = some r) ∧ (u = nI j) ∧ ((zMs C)[j]? = some m) ∧ (∀ x, K x = true ↔ ClQ (zSs C) (zBx C) (helP (zKs C) r) x)) ∨ (k = 1 ∧ C9 = C ∧ (¬ (inR v (zPs C).length = true ∧ inR u (zMs C).length = true)))) (hm : (k2 = 1 ∧ ¬ (inR v (dPs D).length = true ∧ inR u (dMs D).length = true)) ∨ (k2 = 0 ∧ ∃ (i : Nat) (r : MpS) (j : Nat) (q : MmS) (K : Nat → Bool), v = nI i ∧ (dPs D)[i]? = some r ∧ u = nI j ∧ (dMs D)[j]? = some q ∧ (∀ x, K x = true ↔ ClQ (dSs D) (dBx D) (helM (dKs D) (dEs D) i r) x) ∧ b = K q.2.2.2.2)) : Al k C9 f k2 (nI (if b = true then 1 else 0)) (dT D k2) := by
  have hl := h.ln.1
  have hl2 := h.ln.2.2.2.2
  have hc := hC.2.2.1
  have hc2 := hC.2.2.2.2.2.2.2.1
  rcases hk with ⟨k0, i, r, j, m, K, c, hf, hv, hr, hu, hmm, hK⟩ | ⟨k0, c, hne⟩ <;> rcases hm with ⟨m0, hm⟩ | ⟨m0, i2, q, j2, p, L, hv2, hq, hu2, hp, hL, hb⟩
  · exact absurd ⟨inR_y hv (by rw [hl]; exact get_lt2 hr) (by omega), inR_y hu (by rw [hl2]; exact get_lt2 hmm) (by omega)⟩ hm
  · obtain ⟨e1, hw, -⟩ := h.pe hC hv hr hv2 hq
    have e2 := ix_eq hu hu2 (get_lt2 hmm) (get_lt2 hp) (by omega) (by omega)
    subst e1 e2
    have hh := hel_q h.kk h.tr hw
    have g2 := (h.ms.2 _ m p hmm hp).2.2.2.1
    subst c k0 m0
    refine ⟨rfl, fun _ => bl_q hf ?_, h⟩
    rw [hb, (cl_he h hh hK hL).at h.sno.1 h.sno.2 g2]
  · subst c k0 m0; exact Al.x (by decide) h
  · exact absurd ⟨inR_y hv2 (by rw [← hl]; exact get_lt2 hq) (by omega), inR_y hu2 (by rw [← hl2]; exact get_lt2 hp) (by omega)⟩ hne
theorem al_canFind {ev : Bool} (h : Inv C D) (hC : KsB C) (hk : (k = 0 ∧ ∃ (i : Nat) (r : PeS) (j : Nat) (sx : StS) (ky : Nat) (K : Nat → Bool), C9 = C ∧ (((K ky = true) → f = 1) ∧ (¬ (K ky = true) → f = 0)) ∧ (v = nI i) ∧ ((zPs C)[i]? = some r) ∧ (u = nI j) ∧ (j < (zTs C).length) ∧ ((zSt C)[j]? = some sx) ∧ (fnd (zSs C) (sx.2.2.1, none, 6) = some ky) ∧ (∀ x, K x = true ↔ ClQ (zSs C) (zBx C) (fun y => if ev = true then pEv r y = true else helP (zKs C) r y) x)) ∨ (k = 1 ∧ C9 = C ∧ (¬ (inR v (zPs C).length = true ∧ inR u (zTs C).length = true)))) (hm : (k2 = 1 ∧ ¬ (inR v (dPs D).length = true ∧ inR u (dEs D).length = true)) ∨ (k2 = 0 ∧ ∃ (i : Nat) (r : MpS) (j : Nat) (q : MeS) (K : Nat → Bool), v = nI i ∧ (dPs D)[i]? = some r ∧ u = nI j ∧ (dEs D)[j]? = some q ∧ (∀ x, K x = true ↔ ClQ (dSs D) (dBx D) (fun y => if ev = true then y ∈ mEv r else helM (dKs D) (dEs D) i r y) x) ∧ b = K (eKy q))) : Al k C9 f k2 (nI (if b = true then 1 else 0)) (dT D k2) := by
  have hl := h.ln.1
  have hl2 := h.ln.2.2.2.1
  have hc := hC.2.2.1
  have hc2 := hC.2.2.2.2.2.1
  rcases hk with ⟨k0, i, r, j, sx, ky, K, c, hf, hv, hr, hu, hj, hs, hky, hK⟩ | ⟨k0, c, hne⟩ <;> rcases hm with ⟨m0, hm⟩ | ⟨m0, i2, q, j2, p, L, hv2, hq, hu2, hp, hL, hb⟩
  · exact absurd ⟨inR_y hv (by rw [hl]; exact get_lt2 hr) (by omega), inR_y hu (by rw [hl2]; exact hj) (by omega)⟩ hm
  · obtain ⟨e1, hw, hev⟩ := h.pe hC hv hr hv2 hq
    have e2 := ix_eq hu hu2 hj (get_lt2 hp) (by omega) (by omega)
    subst e1 e2
    have hh := hel_q h.kk h.tr hw
    obtain ⟨-, ky2, g1, g2⟩ := ep_ky h hs hp
    rw [hky] at g1; cases g1
    have hsq : Sq (zSs C) (dSs D) (fun y => if ev = true then pEv r y = true else helP (zKs C) r y) (fun y => if ev = true then y ∈ mEv q else helM (dKs D) (dEs D) i q y) := by
      cases ev with
      | true => exact hev
      | false => exact hh
    subst c k0 m0
    refine ⟨rfl, fun _ => bl_q hf ?_, h⟩
    rw [hb, (cl_he h hsq hK hL).at h.sno.1 h.sno.2 g2]
  · subst c k0 m0; exact Al.x (by decide) h
  · exact absurd ⟨inR_y hv2 (by rw [← hl]; exact get_lt2 hq) (by omega), inR_y hu2 (by rw [← hl2]; exact get_lt2 hp) (by omega)⟩ hne
theorem al_messageOf {cc : Nat} (h : Inv C D) (hC : KsB C) (hk : (k = 0 ∧ ∃ (i : Nat) (r : MsS), C9 = C ∧ (f = (nI (if cc = 101 then r.1 else if cc = 108 then r.2.1 else r.2.2.1)).toInt64) ∧ (v = nI i) ∧ ((zMs C)[i]? = some r) ∧ (¬ elpI cc = none)) ∨ (k = 1 ∧ C9 = C ∧ (¬ inR v (zMs C).length = true)) ∨ (k = 2 ∧ C9 = C ∧ (inR v (zMs C).length = true ∧ elpI cc = none))) (hm : (k2 = 1 ∧ ¬ inR v (dMs D).length = true) ∨ (inR v (dMs D).length = true ∧ k2 = 2 ∧ elpI cc = none) ∨ (k2 = 0 ∧ ¬ elpI cc = none ∧ ∃ (i : Nat) (r : MmS), v = nI i ∧ (dMs D)[i]? = some r ∧ x = nI (if cc = 101 then r.1 else if cc = 108 then r.2.1 else r.2.2.1))) : Al k C9 f k2 x (dT D k2) := by
  have hl := h.ln.2.2.2.2
  have hc := hC.2.2.2.2.2.2.2.1
  rcases hk with ⟨k0, i, r, c, hf, hv, hr, he⟩ | ⟨k0, c, hne⟩ | ⟨k0, c, hne, he⟩ <;> rcases hm with ⟨m0, hm⟩ | ⟨hm, m0, he2⟩ | ⟨m0, he2, j, q, hv2, hq, hx⟩
  · exact absurd (inR_y hv (by rw [hl]; exact get_lt2 hr) (by omega)) hm
  · exact absurd he2 he
  · have e1 := ix_eq hv hv2 (get_lt2 hr) (get_lt2 hq) (by omega) (by omega)
    subst e1
    obtain ⟨g1, g2, g3, -⟩ := h.ms.2 _ r q hr hq
    subst c k0 m0
    exact ⟨rfl, fun _ => by rw [hf, hx, g1, g2, g3], h⟩
  · subst c k0 m0; exact Al.x (by decide) h
  · rw [hl] at hm; exact absurd hm hne
  · exact absurd (inR_y hv2 (by rw [← hl]; exact get_lt2 hq) (by omega)) hne
  · rw [hl] at hm; exact absurd hne hm
  · subst c k0 m0; exact Al.x (by decide) h
  · exact absurd he he2
theorem al_holds (h : Inv C D) (hC : KsB C) (hI : zTs C ≠ [] → TrI T) (hT : zTs C ≠ [] → TrQ (zSs C) (dSs D) T (eTr Ep)) (hk : (k = 0 ∧ ∃ (i : Nat) (r : PeS) (j : Nat) (b : Bool), C9 = C ∧ (((b = true) → f = 1) ∧ (¬ (b = true) → f = 0)) ∧ (v = nI i) ∧ ((zPs C)[i]? = some r) ∧ (u = nI j) ∧ (j < 2 * 2 ^ T.1 - 1) ∧ (zTs C ≠ []) ∧ (b = true ↔ ∃ s, T.2.1 j = some s ∧ helP (zKs C) r s)) ∨ (k = 1 ∧ C9 = C ∧ (¬ (inR v (zPs C).length = true ∧ zTs C ≠ [] ∧ inR u (2 * 2 ^ T.1 - 1) = true)))) (hm : (k2 = 1 ∧ ¬ (inR v (dPs D).length = true ∧ dEs D ≠ [] ∧ inR u (2 * 2 ^ (eTr Ep).1 - 1) = true)) ∨ (k2 = 0 ∧ dEs D ≠ [] ∧ ∃ (i : Nat) (r : MpS) (j : Nat), v = nI i ∧ (dPs D)[i]? = some r ∧ u = nI j ∧ j < 2 * 2 ^ (eTr Ep).1 - 1 ∧ (b = true ↔ ∃ x, (eTr Ep).2.1 j = some x ∧ helM (dKs D) (dEs D) i r x))) : Al k C9 f k2 (nI (if b = true then 1 else 0)) (dT D k2) := by
  have hl := h.ln.1
  have hc := hC.2.2.1
  have hn := not_congr h.nil
  rcases hk with ⟨k0, i, r, j, b0, c, hf, hv, hr, hu, hj, hne, hb0⟩ | ⟨k0, c, hne⟩ <;> rcases hm with ⟨m0, hm⟩ | ⟨m0, hm, i2, q, j2, hv2, hq, hu2, hj2, hb⟩
  · have hT := hT hne
    rw [← hT.1] at hm
    exact absurd ⟨inR_y hv (by rw [hl]; exact get_lt2 hr) (by omega), hn.mp hne, inR_y hu hj (nd_n (m := 0) (hI hne)).1⟩ hm
  · have hT := hT hne
    rw [← hT.1] at hj2
    obtain ⟨e1, hw, -⟩ := h.pe hC hv hr hv2 hq
    have e2 := ix_eq hu hu2 hj hj2 (nd_n (m := 0) (hI hne)).1 (nd_n (m := 0) (hI hne)).1
    subst e1 e2
    have hh := hel_q h.kk h.tr hw
    subst c k0 m0
    refine ⟨rfl, fun _ => bl_q hf ?_, h⟩
    rw [hb0, hb]
    rcases hT.2.1 j with ⟨z1, z2⟩ | ⟨y, z, z1, z2, z3⟩
    · rw [z1, z2]
      exact ⟨(fun ⟨s, a, _⟩ => by cases a), (fun ⟨s, a, _⟩ => by cases a)⟩
    · rw [z1, z2]
      constructor
      · rintro ⟨s, a, w⟩
        cases a
        exact ⟨z, rfl, (hh.iff h.sno.1 h.sno.2 z3).mp w⟩
      · rintro ⟨s, a, w⟩
        cases a
        exact ⟨y, rfl, (hh.iff h.sno.1 h.sno.2 z3).mpr w⟩
  · subst c k0 m0; exact Al.x (by decide) h
  · have hT := hT (hn.mpr hm)
    rw [← hT.1] at hj2
    exact absurd ⟨inR_y hv2 (by rw [← hl]; exact get_lt2 hq) (by omega), hn.mpr hm, inR_y hu2 hj2 (nd_n (m := 0) (hI (hn.mpr hm))).1⟩ hne
theorem al_steal {S2 : List Nat} (h : Inv C D) (hC : KsB C) (hk : (k = 0 ∧ ∃ (i : Nat) (r : PeS) (H : Nat → Bool) (K : Nat → Bool) (S2 : Nat → Bool), C9 = ((zSs C, zBx C, zZz C, zPs C, zKs C, zRs C, zTs C, zSt C, zMs C, S2, zBn C) : KsS) ∧ (f = (nI (ctK (fun j => H j && !K j))).toInt64) ∧ (v = nI i) ∧ ((zPs C)[i]? = some r) ∧ (∀ x, H x = true ↔ helP (zKs C) r x) ∧ (∀ x, K x = true ↔ ClQ (zSs C) (zBx C) (fun v => zSo C v = true) x) ∧ (∀ x, S2 x = true ↔ zSo C x = true ∨ helP (zKs C) r x)) ∨ (k = 1 ∧ C9 = C ∧ (¬ inR v (zPs C).length = true))) (hm : (k2 = 1 ∧ ¬ inR v (dPs D).length = true ∧ S2 = dSo D) ∨ (k2 = 0 ∧ ∃ (i : Nat) (r : MpS) (vs : List Nat) (K : Nat → Bool), v = nI i ∧ (dPs D)[i]? = some r ∧ (∀ y, y ∈ vs ↔ helM (dKs D) (dEs D) i r y) ∧ vs.Nodup ∧ (∀ x, K x = true ↔ ClK (dSs D) (dBx D) (dSo D) x) ∧ (∀ y, y ∈ S2 ↔ y ∈ dSo D ∨ y ∈ vs) ∧ S2.Nodup ∧ x = nI (vs.countP fun y => !K y))) : Al k C9 f k2 x ((dSs D, dBx D, dKs D, dPs D, dRs D, dEs D, dMs D, S2, k2, dZz D, dBn D, dCm D) : MdS) := by
  have hl := h.ln.1
  have hc := hC.2.2.1
  rcases hk with ⟨k0, i, r, H, K, S3, c, hf, hv, hr, hH, hK, hS3⟩ | ⟨k0, c, hne⟩ <;> rcases hm with ⟨m0, hm, hS⟩ | ⟨m0, j, q, vs, L, hv2, hq, hvs, hnd, hL, hS, hSn, hx⟩
  · exact absurd (inR_y hv (by rw [hl]; exact get_lt2 hr) (by omega)) hm
  · obtain ⟨e1, hw, -⟩ := h.pe hC hv hr hv2 hq
    subst e1
    have hh := hel_q h.kk h.tr hw
    have hsq := hh.bnot h.sno.1 h.sno.2 (cl_so h hK hL)
    have hs : Sq (zSs C) (dSs D) (fun i => i ∈ (List.range 2048).filter (fun j => H j && !K j)) (fun j => j ∈ vs.filter (fun y => !L y)) := hsq.cg (fun i => by
      rw [List.mem_filter, List.mem_range, Bool.and_eq_true, hH]
      exact ⟨fun z => ⟨z.2.1, by have := z.2.2; simpa using this⟩, fun z => ⟨by have := hh.ltl z.1; have := hC.1; omega, z.1, by have := z.2; simpa using this⟩⟩) (fun j => by
      rw [List.mem_filter, hvs]
      simp)
    subst c k0 m0
    refine ⟨rfl, fun _ => ?_, ?_⟩
    · rw [hf, hx]
      unfold ctK
      rw [ct_rng, hs.len h.sno.1 h.sno.2 (List.Nodup.sublist List.filter_sublist List.nodup_range) (List.Nodup.sublist List.filter_sublist hnd), List.countP_eq_length_filter]
    · have hso : Sq (zSs C) (dSs D) (fun x => S3 x = true) (fun y => y ∈ S2) := (h.so.or hh).cg hS3 (fun y => by rw [hS, hvs])
      obtain ⟨hS, hOk, hz, hbn, hcm, hB, hK, hR, hE, hSt, hP, hM, hSo, hSn2, hPk, hPr, hRo, hCm⟩ := h
      exact ⟨hS, hOk, hz, hbn, hcm, hB, hK, hR, hE, hSt, hP, hM, hso, hSn, hPk, hPr, hRo, hCm⟩
  · subst c k0 m0 hS; exact Al.x (by decide) h
  · exact absurd (inR_y hv2 (by rw [← hl]; exact get_lt2 hq) (by omega)) hne
end
