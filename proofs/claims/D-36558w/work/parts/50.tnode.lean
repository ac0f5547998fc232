set_option maxRecDepth 100000
theorem g_putWO {g : Gv} {κ : Kx} {own : String} {cc : ByteArray} {nL : Nat} {ret : Option FieldType} {lvl : Nat} {pc q : Nat} {lv : List (Option Value)} {st : List Value} {L : List va_W} {kc ks : Nat} (B : Fx g κ own cc nL ret lvl) {C ref : String} {T : u_T} {N ci index k j i : Nat} {a : Nat} {fs : List Value} {v : Value} {w w2 : va_W} (hin : ∀ w ∈ u_ws C T N, w ∈ lw_all) (ty0 : Nat → FieldType) (hty : ∀ k, k < N → parseFieldDescriptor (T k).2.2.1 = some (ty0 k)) (hnm : ∀ a, a < N → ∀ b, b < N → a ≠ b → (T a).2.1 ≠ (T b).2.1) (hc : gCL[ci]? = some (C, T, N)) (d : decode cc pc = .ok (.putfield index, 3)) (hq : pc + 3 = q) (hL : L[k]? = some w) (hi : w[i]? = some (a, .inr (ci, fs))) (hj : j < N) (hl : Cond.fieldLink own index ref (T j).2.1 (T j).2.2.1 ∈ lw_all) (hs : (T j).1 = ref ∨ Cond.sameField ref (T j).1 (T j).2.1 (T j).2.2.1 ∈ lw_all) (hfin : (T j).2.2.2 = false) (hnr : narrow (ty0 j) v = v) (hfit : fits (ty0 j) v = true) (hlen : j < fs.length) (hw2 : w.set i (a, .inr (ci, fs.set j v)) = w2) (kk : Go g κ q lv st (L.set k w2) kc ks) : Go g κ pc lv (v :: .ref a :: st) L kc ks := by
  obtain ⟨p, l, e, R, s, m, args, below, meth, c, A, mc, ms, Q⟩ := κ
  obtain ⟨⟨hx, hb, hml, hown, hts⟩, ⟨hr, hlk⟩, ⟨hst, hE, hA⟩, hR1, hR2, hR3, hR4⟩ := B
  subst hq
  intro H locs cells slots ls h1 h2 h3 h4 h5
  obtain ⟨i2, hi1, hi2⟩ := fl_atw hL hi
  exact va_put hx hb hts hin ty0 hty hnm hown hE.1 h4.1 h4.2 h5 i2 hi1 hc j hj (hts _ hl) (fun x h => by rcases hs with e | e; rw [← e]; exact h; exact u_same (hts _ e) x h) hfin (hty j hj) hnr hfit hlen d (fun H1 locs1 w1 w2 w3 => kk H1 locs1 cells slots ls h1 h2 h3 ⟨by rw [← hw2, ← hi2]; exact w1, by rw [← hw2, ← hi2]; exact w2⟩ w3)
theorem bo_eqf {b : Bool} : nI (if b = true then 1 else 0) = 0 ↔ b = false := by cases b <;> decide
/-- many of the class java/util/HashMap$Node -/
def NodG (g : Gv) (ns : List Nat) (hs : Nat → Int32) (ky : Nat → Nat) (vl : Nat → Nat) (nx : Nat → Option Nat) (w : va_W) : Prop := ns.Nodup ∧ w = ns.map fun a => (a, .inr (24, [.int (hs a), .ref (ky a), .ref (vl a), va_rf (nx a)]))
theorem NodG.mem {g : Gv} {ns : List Nat} {hs : Nat → Int32} {ky : Nat → Nat} {vl : Nat → Nat} {nx : Nat → Option Nat} {w : va_W} (h : NodG g ns hs ky vl nx w) {a : Nat} (ha : a ∈ ns) : (a, .inr (24, [.int (hs a), .ref (ky a), .ref (vl a), va_rf (nx a)])) ∈ w := by
  rw [h.2]; exact List.mem_map.mpr ⟨a, ha, rfl⟩
theorem NodG.nm {g : Gv} {ns : List Nat} {hs : Nat → Int32} {ky : Nat → Nat} {vl : Nat → Nat} {nx : Nat → Option Nat} {w : va_W} (h : NodG g ns hs ky vl nx w) {a : Nat} {e : va_E} (ha : (a, e) ∈ w) : a ∈ ns := by
  rw [h.2] at ha
  obtain ⟨b, hb, e⟩ := List.mem_map.mp ha
  cases e; exact hb
theorem NodG.congr {g : Gv} {ns : List Nat} {hs : Nat → Int32} {ky : Nat → Nat} {vl : Nat → Nat} {nx : Nat → Option Nat} {w : va_W} {hs2 : Nat → Int32} {ky2 : Nat → Nat} {vl2 : Nat → Nat} {nx2 : Nat → Option Nat} (h : NodG g ns hs ky vl nx w) (e : ∀ a ∈ ns, hs a = hs2 a ∧ ky a = ky2 a ∧ vl a = vl2 a ∧ nx a = nx2 a) : NodG g ns hs2 ky2 vl2 nx2 w := by
  refine ⟨h.1, h.2.trans (List.map_congr_left fun a ha => ?_)⟩
  obtain ⟨e0, e1, e2, e3⟩ := e a ha
  rw [e0, e1, e2, e3]
theorem NodG.cons {g : Gv} {ns : List Nat} {hs : Nat → Int32} {ky : Nat → Nat} {vl : Nat → Nat} {nx : Nat → Option Nat} {w : va_W} (h : NodG g ns hs ky vl nx w) {n : Nat} {x0 : Int32} {x1 : Nat} {x2 : Nat} {x3 : Option Nat} (hn : n ∉ ns) : NodG g (n :: ns) (fup hs n x0) (fup ky n x1) (fup vl n x2) (fup nx n x3) ([[(n, .inr (24, [.int x0, .ref x1, .ref x2, va_rf x3]))], w] : List va_W).flatten := by
  refine ⟨List.nodup_cons.mpr ⟨hn, h.1⟩, ?_⟩
  rw [List.map_cons, fup_s, fup_s, fup_s, fup_s]
  show _ :: (w ++ []) = _
  rw [List.append_nil, h.2]
  congr 1
  refine List.map_congr_left fun b hb => ?_
  have hne : b ≠ n := fun e => hn (e ▸ hb)
  rw [fup_n hne, fup_n hne, fup_n hne, fup_n hne]
theorem NodG.drop {g : Gv} {ns : List Nat} {hs : Nat → Int32} {ky : Nat → Nat} {vl : Nat → Nat} {nx : Nat → Option Nat} {w : va_W} (h : NodG g ns hs ky vl nx w) {d : Nat} (hd : d ∈ ns) : ∃ w2, w.Perm (w2 ++ [(d, .inr (24, [.int (hs d), .ref (ky d), .ref (vl d), va_rf (nx d)]))]) ∧ NodG g (ns.erase d) hs ky vl nx w2 := by
  refine ⟨_, ?_, ⟨h.1.erase d, rfl⟩⟩
  rw [h.2]
  have z := (List.perm_cons_erase hd).map (fun a => ((a, .inr (24, [.int (hs a), .ref (ky a), .ref (vl a), va_rf (nx a)])) : Nat × va_E))
  refine z.trans ?_
  rw [List.map_cons]
  exact List.perm_append_comm (l₁ := [_])
theorem NodG.nil {g : Gv} {hs : Nat → Int32} {ky : Nat → Nat} {vl : Nat → Nat} {nx : Nat → Option Nat} : NodG g [] hs ky vl nx ([] : List va_W).flatten := ⟨List.nodup_nil, rfl⟩
section
variable {g : Gv} {κ : Kx} {own : String} {cc : ByteArray} {nL : Nat} {ret : Option FieldType} {lvl : Nat} {pc q : Nat} {lv : List (Option Value)} {st : List Value} {L : List va_W} {kc ks : Nat}
theorem g_putNodG2 (B : Fx g κ own cc nL ret lvl) {ns : List Nat} {hs : Nat → Int32} {ky : Nat → Nat} {vl : Nat → Nat} {nx : Nat → Option Nat} {ref : String} {index k b : Nat} {x : Nat} {w : va_W} (h : NodG g ns hs ky vl nx w) (hb : b ∈ ns) (d : decode cc pc = .ok (.putfield index, 3)) (hq : pc + 3 = q) (hL : L[k]? = some w) (hl : Cond.fieldLink own index ref (TJ38 2).2.1 (TJ38 2).2.2.1 ∈ lw_all) (hsm : (TJ38 2).1 = ref ∨ Cond.sameField ref (TJ38 2).1 (TJ38 2).2.1 (TJ38 2).2.2.1 ∈ lw_all) (kk : ∀ w2, NodG g ns hs ky (fup vl b x) nx w2 → Go g κ q lv st (L.set k w2) kc ks) : Go g κ pc lv (.ref x :: .ref b :: st) L kc ks := by
  obtain ⟨i, hi⟩ := List.getElem?_of_mem hb
  refine g_putWO (ci := 24) (j := 2) (i := i) B in_J38 tyJ38 tyJ38_ok nmJ38 rfl d hq hL (by rw [h.2, List.getElem?_map, hi]; rfl) (Nat.le_of_ble_eq_true rfl) hl hsm rfl rfl rfl (Nat.le_of_ble_eq_true rfl) rfl (kk _ ⟨h.1, ?_⟩)
  rw [h.2]
  refine Eq.trans ?_ (map_set (F := (fun a => (a, Sum.inr (24, [.int (hs a), .ref (ky a), .ref (vl a), va_rf (nx a)])))) (G := (fun a => (a, Sum.inr (24, [.int (hs a), .ref (ky a), .ref ((fup vl b x) a), va_rf (nx a)])))) h.1 hi (fun c hc => by simp only [fup_n hc]))
  simp only [fup_s]
  rfl
theorem g_putNodG3 (B : Fx g κ own cc nL ret lvl) {ns : List Nat} {hs : Nat → Int32} {ky : Nat → Nat} {vl : Nat → Nat} {nx : Nat → Option Nat} {ref : String} {index k b : Nat} {x : Option Nat} {w : va_W} (h : NodG g ns hs ky vl nx w) (hb : b ∈ ns) (d : decode cc pc = .ok (.putfield index, 3)) (hq : pc + 3 = q) (hL : L[k]? = some w) (hl : Cond.fieldLink own index ref (TJ38 3).2.1 (TJ38 3).2.2.1 ∈ lw_all) (hsm : (TJ38 3).1 = ref ∨ Cond.sameField ref (TJ38 3).1 (TJ38 3).2.1 (TJ38 3).2.2.1 ∈ lw_all) (kk : ∀ w2, NodG g ns hs ky vl (fup nx b x) w2 → Go g κ q lv st (L.set k w2) kc ks) : Go g κ pc lv (va_rf x :: .ref b :: st) L kc ks := by
  obtain ⟨i, hi⟩ := List.getElem?_of_mem hb
  refine g_putWO (ci := 24) (j := 3) (i := i) B in_J38 tyJ38 tyJ38_ok nmJ38 rfl d hq hL (by rw [h.2, List.getElem?_map, hi]; rfl) (Nat.le_of_ble_eq_true rfl) hl hsm rfl (by cases x <;> rfl) (by cases x <;> rfl) (Nat.le_of_ble_eq_true rfl) rfl (kk _ ⟨h.1, ?_⟩)
  rw [h.2]
  refine Eq.trans ?_ (map_set (F := (fun a => (a, Sum.inr (24, [.int (hs a), .ref (ky a), .ref (vl a), va_rf (nx a)])))) (G := (fun a => (a, Sum.inr (24, [.int (hs a), .ref (ky a), .ref (vl a), va_rf ((fup nx b x) a)])))) h.1 hi (fun c hc => by simp only [fup_n hc]))
  simp only [fup_s]
  rfl
end
/-- many of the class java/util/HashMap$TreeNode -/
def TNG (g : Gv) (ns : List Nat) (hs : Nat → Int32) (ky : Nat → Nat) (vl : Nat → Nat) (nx : Nat → Option Nat) (pp : Nat → Option Nat) (lf : Nat → Option Nat) (rg : Nat → Option Nat) (pv : Nat → Option Nat) (rd : Nat → Bool) (w : va_W) : Prop := ns.Nodup ∧ w = ns.map fun a => (a, .inr (25, [.null, .null, .int (hs a), .ref (ky a), .ref (vl a), va_rf (nx a), va_rf (pp a), va_rf (lf a), va_rf (rg a), va_rf (pv a), .int (nI (if rd a = true then 1 else 0))]))
theorem TNG.mem {g : Gv} {ns : List Nat} {hs : Nat → Int32} {ky : Nat → Nat} {vl : Nat → Nat} {nx : Nat → Option Nat} {pp : Nat → Option Nat} {lf : Nat → Option Nat} {rg : Nat → Option Nat} {pv : Nat → Option Nat} {rd : Nat → Bool} {w : va_W} (h : TNG g ns hs ky vl nx pp lf rg pv rd w) {a : Nat} (ha : a ∈ ns) : (a, .inr (25, [.null, .null, .int (hs a), .ref (ky a), .ref (vl a), va_rf (nx a), va_rf (pp a), va_rf (lf a), va_rf (rg a), va_rf (pv a), .int (nI (if rd a = true then 1 else 0))])) ∈ w := by
  rw [h.2]; exact List.mem_map.mpr ⟨a, ha, rfl⟩
theorem TNG.nm {g : Gv} {ns : List Nat} {hs : Nat → Int32} {ky : Nat → Nat} {vl : Nat → Nat} {nx : Nat → Option Nat} {pp : Nat → Option Nat} {lf : Nat → Option Nat} {rg : Nat → Option Nat} {pv : Nat → Option Nat} {rd : Nat → Bool} {w : va_W} (h : TNG g ns hs ky vl nx pp lf rg pv rd w) {a : Nat} {e : va_E} (ha : (a, e) ∈ w) : a ∈ ns := by
  rw [h.2] at ha
  obtain ⟨b, hb, e⟩ := List.mem_map.mp ha
  cases e; exact hb
theorem TNG.congr {g : Gv} {ns : List Nat} {hs : Nat → Int32} {ky : Nat → Nat} {vl : Nat → Nat} {nx : Nat → Option Nat} {pp : Nat → Option Nat} {lf : Nat → Option Nat} {rg : Nat → Option Nat} {pv : Nat → Option Nat} {rd : Nat → Bool} {w : va_W} {hs2 : Nat → Int32} {ky2 : Nat → Nat} {vl2 : Nat → Nat} {nx2 : Nat → Option Nat} {pp2 : Nat → Option Nat} {lf2 : Nat → Option Nat} {rg2 : Nat → Option Nat} {pv2 : Nat → Option Nat} {rd2 : Nat → Bool} (h : TNG g ns hs ky vl nx pp lf rg pv rd w) (e : ∀ a ∈ ns, hs a = hs2 a ∧ ky a = ky2 a ∧ vl a = vl2 a ∧ nx a = nx2 a ∧ pp a = pp2 a ∧ lf a = lf2 a ∧ rg a = rg2 a ∧ pv a = pv2 a ∧ rd a = rd2 a) : TNG g ns hs2 ky2 vl2 nx2 pp2 lf2 rg2 pv2 rd2 w := by
  refine ⟨h.1, h.2.trans (List.map_congr_left fun a ha => ?_)⟩
  obtain ⟨e0, e1, e2, e3, e4, e5, e6, e7, e8⟩ := e a ha
  rw [e0, e1, e2, e3, e4, e5, e6, e7, e8]
theorem TNG.cons {g : Gv} {ns : List Nat} {hs : Nat → Int32} {ky : Nat → Nat} {vl : Nat → Nat} {nx : Nat → Option Nat} {pp : Nat → Option Nat} {lf : Nat → Option Nat} {rg : Nat → Option Nat} {pv : Nat → Option Nat} {rd : Nat → Bool} {w : va_W} (h : TNG g ns hs ky vl nx pp lf rg pv rd w) {n : Nat} {x2 : Int32} {x3 : Nat} {x4 : Nat} {x5 : Option Nat} {x6 : Option Nat} {x7 : Option Nat} {x8 : Option Nat} {x9 : Option Nat} {x10 : Bool} (hn : n ∉ ns) : TNG g (n :: ns) (fup hs n x2) (fup ky n x3) (fup vl n x4) (fup nx n x5) (fup pp n x6) (fup lf n x7) (fup rg n x8) (fup pv n x9) (fup rd n x10) ([[(n, .inr (25, [.null, .null, .int x2, .ref x3, .ref x4, va_rf x5, va_rf x6, va_rf x7, va_rf x8, va_rf x9, .int (nI (if x10 = true then 1 else 0))]))], w] : List va_W).flatten := by
  refine ⟨List.nodup_cons.mpr ⟨hn, h.1⟩, ?_⟩
  rw [List.map_cons, fup_s, fup_s, fup_s, fup_s, fup_s, fup_s, fup_s, fup_s, fup_s]
  show _ :: (w ++ []) = _
  rw [List.append_nil, h.2]
  congr 1
  refine List.map_congr_left fun b hb => ?_
  have hne : b ≠ n := fun e => hn (e ▸ hb)
  rw [fup_n hne, fup_n hne, fup_n hne, fup_n hne, fup_n hne, fup_n hne, fup_n hne, fup_n hne, fup_n hne]
theorem TNG.drop {g : Gv} {ns : List Nat} {hs : Nat → Int32} {ky : Nat → Nat} {vl : Nat → Nat} {nx : Nat → Option Nat} {pp : Nat → Option Nat} {lf : Nat → Option Nat} {rg : Nat → Option Nat} {pv : Nat → Option Nat} {rd : Nat → Bool} {w : va_W} (h : TNG g ns hs ky vl nx pp lf rg pv rd w) {d : Nat} (hd : d ∈ ns) : ∃ w2, w.Perm (w2 ++ [(d, .inr (25, [.null, .null, .int (hs d), .ref (ky d), .ref (vl d), va_rf (nx d), va_rf (pp d), va_rf (lf d), va_rf (rg d), va_rf (pv d), .int (nI (if rd d = true then 1 else 0))]))]) ∧ TNG g (ns.erase d) hs ky vl nx pp lf rg pv rd w2 := by
  refine ⟨_, ?_, ⟨h.1.erase d, rfl⟩⟩
  rw [h.2]
  have z := (List.perm_cons_erase hd).map (fun a => ((a, .inr (25, [.null, .null, .int (hs a), .ref (ky a), .ref (vl a), va_rf (nx a), va_rf (pp a), va_rf (lf a), va_rf (rg a), va_rf (pv a), .int (nI (if rd a = true then 1 else 0))])) : Nat × va_E))
  refine z.trans ?_
  rw [List.map_cons]
  exact List.perm_append_comm (l₁ := [_])
theorem TNG.nil {g : Gv} {hs : Nat → Int32} {ky : Nat → Nat} {vl : Nat → Nat} {nx : Nat → Option Nat} {pp : Nat → Option Nat} {lf : Nat → Option Nat} {rg : Nat → Option Nat} {pv : Nat → Option Nat} {rd : Nat → Bool} : TNG g [] hs ky vl nx pp lf rg pv rd ([] : List va_W).flatten := ⟨List.nodup_nil, rfl⟩
section
variable {g : Gv} {κ : Kx} {own : String} {cc : ByteArray} {nL : Nat} {ret : Option FieldType} {lvl : Nat} {pc q : Nat} {lv : List (Option Value)} {st : List Value} {L : List va_W} {kc ks : Nat}
theorem g_putTNG4 (B : Fx g κ own cc nL ret lvl) {ns : List Nat} {hs : Nat → Int32} {ky : Nat → Nat} {vl : Nat → Nat} {nx : Nat → Option Nat} {pp : Nat → Option Nat} {lf : Nat → Option Nat} {rg : Nat → Option Nat} {pv : Nat → Option Nat} {rd : Nat → Bool} {ref : String} {index k b : Nat} {x : Nat} {w : va_W} (h : TNG g ns hs ky vl nx pp lf rg pv rd w) (hb : b ∈ ns) (d : decode cc pc = .ok (.putfield index, 3)) (hq : pc + 3 = q) (hL : L[k]? = some w) (hl : Cond.fieldLink own index ref (TJ40 4).2.1 (TJ40 4).2.2.1 ∈ lw_all) (hsm : (TJ40 4).1 = ref ∨ Cond.sameField ref (TJ40 4).1 (TJ40 4).2.1 (TJ40 4).2.2.1 ∈ lw_all) (kk : ∀ w2, TNG g ns hs ky (fup vl b x) nx pp lf rg pv rd w2 → Go g κ q lv st (L.set k w2) kc ks) : Go g κ pc lv (.ref x :: .ref b :: st) L kc ks := by
  obtain ⟨i, hi⟩ := List.getElem?_of_mem hb
  refine g_putWO (ci := 25) (j := 4) (i := i) B in_J40 tyJ40 tyJ40_ok nmJ40 rfl d hq hL (by rw [h.2, List.getElem?_map, hi]; rfl) (Nat.le_of_ble_eq_true rfl) hl hsm rfl rfl rfl (Nat.le_of_ble_eq_true rfl) rfl (kk _ ⟨h.1, ?_⟩)
  rw [h.2]
  refine Eq.trans ?_ (map_set (F := (fun a => (a, Sum.inr (25, [.null, .null, .int (hs a), .ref (ky a), .ref (vl a), va_rf (nx a), va_rf (pp a), va_rf (lf a), va_rf (rg a), va_rf (pv a), .int (nI (if rd a = true then 1 else 0))])))) (G := (fun a => (a, Sum.inr (25, [.null, .null, .int (hs a), .ref (ky a), .ref ((fup vl b x) a), va_rf (nx a), va_rf (pp a), va_rf (lf a), va_rf (rg a), va_rf (pv a), .int (nI (if rd a = true then 1 else 0))])))) h.1 hi (fun c hc => by simp only [fup_n hc]))
  simp only [fup_s]
  rfl
theorem g_putTNG5 (B : Fx g κ own cc nL ret lvl) {ns : List Nat} {hs : Nat → Int32} {ky : Nat → Nat} {vl : Nat → Nat} {nx : Nat → Option Nat} {pp : Nat → Option Nat} {lf : Nat → Option Nat} {rg : Nat → Option Nat} {pv : Nat → Option Nat} {rd : Nat → Bool} {ref : String} {index k b : Nat} {x : Option Nat} {w : va_W} (h : TNG g ns hs ky vl nx pp lf rg pv rd w) (hb : b ∈ ns) (d : decode cc pc = .ok (.putfield index, 3)) (hq : pc + 3 = q) (hL : L[k]? = some w) (hl : Cond.fieldLink own index ref (TJ40 5).2.1 (TJ40 5).2.2.1 ∈ lw_all) (hsm : (TJ40 5).1 = ref ∨ Cond.sameField ref (TJ40 5).1 (TJ40 5).2.1 (TJ40 5).2.2.1 ∈ lw_all) (kk : ∀ w2, TNG g ns hs ky vl (fup nx b x) pp lf rg pv rd w2 → Go g κ q lv st (L.set k w2) kc ks) : Go g κ pc lv (va_rf x :: .ref b :: st) L kc ks := by
  obtain ⟨i, hi⟩ := List.getElem?_of_mem hb
  refine g_putWO (ci := 25) (j := 5) (i := i) B in_J40 tyJ40 tyJ40_ok nmJ40 rfl d hq hL (by rw [h.2, List.getElem?_map, hi]; rfl) (Nat.le_of_ble_eq_true rfl) hl hsm rfl (by cases x <;> rfl) (by cases x <;> rfl) (Nat.le_of_ble_eq_true rfl) rfl (kk _ ⟨h.1, ?_⟩)
  rw [h.2]
  refine Eq.trans ?_ (map_set (F := (fun a => (a, Sum.inr (25, [.null, .null, .int (hs a), .ref (ky a), .ref (vl a), va_rf (nx a), va_rf (pp a), va_rf (lf a), va_rf (rg a), va_rf (pv a), .int (nI (if rd a = true then 1 else 0))])))) (G := (fun a => (a, Sum.inr (25, [.null, .null, .int (hs a), .ref (ky a), .ref (vl a), va_rf ((fup nx b x) a), va_rf (pp a), va_rf (lf a), va_rf (rg a), va_rf (pv a), .int (nI (if rd a = true then 1 else 0))])))) h.1 hi (fun c hc => by simp only [fup_n hc]))
  simp only [fup_s]
  rfl
theorem g_putTNG6 (B : Fx g κ own cc nL ret lvl) {ns : List Nat} {hs : Nat → Int32} {ky : Nat → Nat} {vl : Nat → Nat} {nx : Nat → Option Nat} {pp : Nat → Option Nat} {lf : Nat → Option Nat} {rg : Nat → Option Nat} {pv : Nat → Option Nat} {rd : Nat → Bool} {ref : String} {index k b : Nat} {x : Option Nat} {w : va_W} (h : TNG g ns hs ky vl nx pp lf rg pv rd w) (hb : b ∈ ns) (d : decode cc pc = .ok (.putfield index, 3)) (hq : pc + 3 = q) (hL : L[k]? = some w) (hl : Cond.fieldLink own index ref (TJ40 6).2.1 (TJ40 6).2.2.1 ∈ lw_all) (hsm : (TJ40 6).1 = ref ∨ Cond.sameField ref (TJ40 6).1 (TJ40 6).2.1 (TJ40 6).2.2.1 ∈ lw_all) (kk : ∀ w2, TNG g ns hs ky vl nx (fup pp b x) lf rg pv rd w2 → Go g κ q lv st (L.set k w2) kc ks) : Go g κ pc lv (va_rf x :: .ref b :: st) L kc ks := by
  obtain ⟨i, hi⟩ := List.getElem?_of_mem hb
  refine g_putWO (ci := 25) (j := 6) (i := i) B in_J40 tyJ40 tyJ40_ok nmJ40 rfl d hq hL (by rw [h.2, List.getElem?_map, hi]; rfl) (Nat.le_of_ble_eq_true rfl) hl hsm rfl (by cases x <;> rfl) (by cases x <;> rfl) (Nat.le_of_ble_eq_true rfl) rfl (kk _ ⟨h.1, ?_⟩)
  rw [h.2]
  refine Eq.trans ?_ (map_set (F := (fun a => (a, Sum.inr (25, [.null, .null, .int (hs a), .ref (ky a), .ref (vl a), va_rf (nx a), va_rf (pp a), va_rf (lf a), va_rf (rg a), va_rf (pv a), .int (nI (if rd a = true then 1 else 0))])))) (G := (fun a => (a, Sum.inr (25, [.null, .null, .int (hs a), .ref (ky a), .ref (vl a), va_rf (nx a), va_rf ((fup pp b x) a), va_rf (lf a), va_rf (rg a), va_rf (pv a), .int (nI (if rd a = true then 1 else 0))])))) h.1 hi (fun c hc => by simp only [fup_n hc]))
  simp only [fup_s]
  rfl
theorem g_putTNG7 (B : Fx g κ own cc nL ret lvl) {ns : List Nat} {hs : Nat → Int32} {ky : Nat → Nat} {vl : Nat → Nat} {nx : Nat → Option Nat} {pp : Nat → Option Nat} {lf : Nat → Option Nat} {rg : Nat → Option Nat} {pv : Nat → Option Nat} {rd : Nat → Bool} {ref : String} {index k b : Nat} {x : Option Nat} {w : va_W} (h : TNG g ns hs ky vl nx pp lf rg pv rd w) (hb : b ∈ ns) (d : decode cc pc = .ok (.putfield index, 3)) (hq : pc + 3 = q) (hL : L[k]? = some w) (hl : Cond.fieldLink own index ref (TJ40 7).2.1 (TJ40 7).2.2.1 ∈ lw_all) (hsm : (TJ40 7).1 = ref ∨ Cond.sameField ref (TJ40 7).1 (TJ40 7).2.1 (TJ40 7).2.2.1 ∈ lw_all) (kk : ∀ w2, TNG g ns hs ky vl nx pp (fup lf b x) rg pv rd w2 → Go g κ q lv st (L.set k w2) kc ks) : Go g κ pc lv (va_rf x :: .ref b :: st) L kc ks := by
  obtain ⟨i, hi⟩ := List.getElem?_of_mem hb
  refine g_putWO (ci := 25) (j := 7) (i := i) B in_J40 tyJ40 tyJ40_ok nmJ40 rfl d hq hL (by rw [h.2, List.getElem?_map, hi]; rfl) (Nat.le_of_ble_eq_true rfl) hl hsm rfl (by cases x <;> rfl) (by cases x <;> rfl) (Nat.le_of_ble_eq_true rfl) rfl (kk _ ⟨h.1, ?_⟩)
  rw [h.2]
  refine Eq.trans ?_ (map_set (F := (fun a => (a, Sum.inr (25, [.null, .null, .int (hs a), .ref (ky a), .ref (vl a), va_rf (nx a), va_rf (pp a), va_rf (lf a), va_rf (rg a), va_rf (pv a), .int (nI (if rd a = true then 1 else 0))])))) (G := (fun a => (a, Sum.inr (25, [.null, .null, .int (hs a), .ref (ky a), .ref (vl a), va_rf (nx a), va_rf (pp a), va_rf ((fup lf b x) a), va_rf (rg a), va_rf (pv a), .int (nI (if rd a = true then 1 else 0))])))) h.1 hi (fun c hc => by simp only [fup_n hc]))
  simp only [fup_s]
  rfl
theorem g_putTNG8 (B : Fx g κ own cc nL ret lvl) {ns : List Nat} {hs : Nat → Int32} {ky : Nat → Nat} {vl : Nat → Nat} {nx : Nat → Option Nat} {pp : Nat → Option Nat} {lf : Nat → Option Nat} {rg : Nat → Option Nat} {pv : Nat → Option Nat} {rd : Nat → Bool} {ref : String} {index k b : Nat} {x : Option Nat} {w : va_W} (h : TNG g ns hs ky vl nx pp lf rg pv rd w) (hb : b ∈ ns) (d : decode cc pc = .ok (.putfield index, 3)) (hq : pc + 3 = q) (hL : L[k]? = some w) (hl : Cond.fieldLink own index ref (TJ40 8).2.1 (TJ40 8).2.2.1 ∈ lw_all) (hsm : (TJ40 8).1 = ref ∨ Cond.sameField ref (TJ40 8).1 (TJ40 8).2.1 (TJ40 8).2.2.1 ∈ lw_all) (kk : ∀ w2, TNG g ns hs ky vl nx pp lf (fup rg b x) pv rd w2 → Go g κ q lv st (L.set k w2) kc ks) : Go g κ pc lv (va_rf x :: .ref b :: st) L kc ks := by
  obtain ⟨i, hi⟩ := List.getElem?_of_mem hb
  refine g_putWO (ci := 25) (j := 8) (i := i) B in_J40 tyJ40 tyJ40_ok nmJ40 rfl d hq hL (by rw [h.2, List.getElem?_map, hi]; rfl) (Nat.le_of_ble_eq_true rfl) hl hsm rfl (by cases x <;> rfl) (by cases x <;> rfl) (Nat.le_of_ble_eq_true rfl) rfl (kk _ ⟨h.1, ?_⟩)
  rw [h.2]
  refine Eq.trans ?_ (map_set (F := (fun a => (a, Sum.inr (25, [.null, .null, .int (hs a), .ref (ky a), .ref (vl a), va_rf (nx a), va_rf (pp a), va_rf (lf a), va_rf (rg a), va_rf (pv a), .int (nI (if rd a = true then 1 else 0))])))) (G := (fun a => (a, Sum.inr (25, [.null, .null, .int (hs a), .ref (ky a), .ref (vl a), va_rf (nx a), va_rf (pp a), va_rf (lf a), va_rf ((fup rg b x) a), va_rf (pv a), .int (nI (if rd a = true then 1 else 0))])))) h.1 hi (fun c hc => by simp only [fup_n hc]))
  simp only [fup_s]
  rfl
theorem g_putTNG9 (B : Fx g κ own cc nL ret lvl) {ns : List Nat} {hs : Nat → Int32} {ky : Nat → Nat} {vl : Nat → Nat} {nx : Nat → Option Nat} {pp : Nat → Option Nat} {lf : Nat → Option Nat} {rg : Nat → Option Nat} {pv : Nat → Option Nat} {rd : Nat → Bool} {ref : String} {index k b : Nat} {x : Option Nat} {w : va_W} (h : TNG g ns hs ky vl nx pp lf rg pv rd w) (hb : b ∈ ns) (d : decode cc pc = .ok (.putfield index, 3)) (hq : pc + 3 = q) (hL : L[k]? = some w) (hl : Cond.fieldLink own index ref (TJ40 9).2.1 (TJ40 9).2.2.1 ∈ lw_all) (hsm : (TJ40 9).1 = ref ∨ Cond.sameField ref (TJ40 9).1 (TJ40 9).2.1 (TJ40 9).2.2.1 ∈ lw_all) (kk : ∀ w2, TNG g ns hs ky vl nx pp lf rg (fup pv b x) rd w2 → Go g κ q lv st (L.set k w2) kc ks) : Go g κ pc lv (va_rf x :: .ref b :: st) L kc ks := by
  obtain ⟨i, hi⟩ := List.getElem?_of_mem hb
  refine g_putWO (ci := 25) (j := 9) (i := i) B in_J40 tyJ40 tyJ40_ok nmJ40 rfl d hq hL (by rw [h.2, List.getElem?_map, hi]; rfl) (Nat.le_of_ble_eq_true rfl) hl hsm rfl (by cases x <;> rfl) (by cases x <;> rfl) (Nat.le_of_ble_eq_true rfl) rfl (kk _ ⟨h.1, ?_⟩)
  rw [h.2]
  refine Eq.trans ?_ (map_set (F := (fun a => (a, Sum.inr (25, [.null, .null, .int (hs a), .ref (ky a), .ref (vl a), va_rf (nx a), va_rf (pp a), va_rf (lf a), va_rf (rg a), va_rf (pv a), .int (nI (if rd a = true then 1 else 0))])))) (G := (fun a => (a, Sum.inr (25, [.null, .null, .int (hs a), .ref (ky a), .ref (vl a), va_rf (nx a), va_rf (pp a), va_rf (lf a), va_rf (rg a), va_rf ((fup pv b x) a), .int (nI (if rd a = true then 1 else 0))])))) h.1 hi (fun c hc => by simp only [fup_n hc]))
  simp only [fup_s]
  rfl
theorem g_putTNG10 (B : Fx g κ own cc nL ret lvl) {ns : List Nat} {hs : Nat → Int32} {ky : Nat → Nat} {vl : Nat → Nat} {nx : Nat → Option Nat} {pp : Nat → Option Nat} {lf : Nat → Option Nat} {rg : Nat → Option Nat} {pv : Nat → Option Nat} {rd : Nat → Bool} {ref : String} {index k b : Nat} {x : Bool} {w : va_W} (h : TNG g ns hs ky vl nx pp lf rg pv rd w) (hb : b ∈ ns) (d : decode cc pc = .ok (.putfield index, 3)) (hq : pc + 3 = q) (hL : L[k]? = some w) (hl : Cond.fieldLink own index ref (TJ40 10).2.1 (TJ40 10).2.2.1 ∈ lw_all) (hsm : (TJ40 10).1 = ref ∨ Cond.sameField ref (TJ40 10).1 (TJ40 10).2.1 (TJ40 10).2.2.1 ∈ lw_all) (kk : ∀ w2, TNG g ns hs ky vl nx pp lf rg pv (fup rd b x) w2 → Go g κ q lv st (L.set k w2) kc ks) : Go g κ pc lv (.int (nI (if x = true then 1 else 0)) :: .ref b :: st) L kc ks := by
  obtain ⟨i, hi⟩ := List.getElem?_of_mem hb
  refine g_putWO (ci := 25) (j := 10) (i := i) B in_J40 tyJ40 tyJ40_ok nmJ40 rfl d hq hL (by rw [h.2, List.getElem?_map, hi]; rfl) (Nat.le_of_ble_eq_true rfl) hl hsm rfl (by cases x <;> rfl) (by cases x <;> rfl) (Nat.le_of_ble_eq_true rfl) rfl (kk _ ⟨h.1, ?_⟩)
  rw [h.2]
  refine Eq.trans ?_ (map_set (F := (fun a => (a, Sum.inr (25, [.null, .null, .int (hs a), .ref (ky a), .ref (vl a), va_rf (nx a), va_rf (pp a), va_rf (lf a), va_rf (rg a), va_rf (pv a), .int (nI (if rd a = true then 1 else 0))])))) (G := (fun a => (a, Sum.inr (25, [.null, .null, .int (hs a), .ref (ky a), .ref (vl a), va_rf (nx a), va_rf (pp a), va_rf (lf a), va_rf (rg a), va_rf (pv a), .int (nI (if (fup rd b x) a = true then 1 else 0))])))) h.1 hi (fun c hc => by simp only [fup_n hc]))
  simp only [fup_s]
  rfl
end
/-- the rank of a hash code -/
def hrk (h : Int32) : Nat := (h.toInt + 2147483648).toNat
theorem hrk_lt (h : Int32) : hrk h < 4294967296 := by
  have h1 := h.toInt_lt; have h2 := h.le_toInt
  unfold hrk; omega
theorem hrk_iff {a b : Int32} : a < b ↔ hrk a < hrk b := by
  rw [Int32.lt_iff_toInt_lt]
  have h1 := a.toInt_lt; have h2 := a.le_toInt
  have h3 := b.toInt_lt; have h4 := b.le_toInt
  unfold hrk; omega
theorem hrk_le {a b : Int32} : a ≤ b ↔ hrk a ≤ hrk b := by
  rw [Int32.le_iff_toInt_le]
  have h1 := a.toInt_lt; have h2 := a.le_toInt
  have h3 := b.toInt_lt; have h4 := b.le_toInt
  unfold hrk; omega
theorem hrk_inj {a b : Int32} (h : hrk a = hrk b) : a = b := by
  have h1 := a.toInt_lt; have h2 := a.le_toInt
  have h3 := b.toInt_lt; have h4 := b.le_toInt
  apply Int32.toInt_inj.mp
  unfold hrk at h; omega
theorem ct_J40_rotateLeft (g : Gv) (J : Jd g) {ns : List Nat} {hs : Nat → Int32} {ky : Nat → Nat} {vl : Nat → Nat} {nx : Nat → Option Nat} {pp : Nat → Option Nat} {lf : Nat → Option Nat} {rg : Nat → Option Nat} {pv : Nat → Option Nat} {rd : Nat → Bool} {key : Nat → Nat} {lo : Nat → Nat} {hi : Nat → Nat} {root : Nat} {a : Nat} {b : Nat} {w0 : va_W} (hw0 : TNG g ns hs ky vl nx pp lf rg pv rd w0) (hT : Tr ns key lf rg pp lo hi (some root) 4294967296) (ha : a ∈ ns) (hb : rg a = some b) : Ct g yJ40_rotateLeft (ws_ yJ40_rotateLeft cJ40_rotateLeft 5 (some (.object "java/util/HashMap$TreeNode"))) 0 0 0 [.ref root, .ref a] [w0] (fun (rv_ : Option Value) (rL_ : List va_W) => ∃ (root2 : Nat) (rd2 : Nat → Bool) (u0 : va_W), rv_ = some (.ref root2) ∧ rL_ = [u0] ∧ TNG g ns hs ky vl nx (rlP lf pp a b) (rlL lf a b) (rlR lf rg a b) pv rd2 u0 ∧ (rlRoot (some root) a b = some root2) ∧ (Tr ns key (rlL lf a b) (rlR lf rg a b) (rlP lf pp a b) (fup lo b (lo a)) (fup (fup hi b (hi a)) a (key b)) (some root2) 4294967296) ∧ (∀ d ∈ ns, rd2 d = rd d ∨ (d = b ∧ rd2 d = false))) noX := by
  refine Ct.of "java/util/HashMap$TreeNode" [some (.ref root), some (.ref a), none, none, none] rfl (by decide) rfl (Nat.le_of_ble_eq_true rfl) rfl ?_
  intro κ B E tb
  obtain ⟨h1, h2, h3, h4, h5, h6, h7, h8, h9, h10⟩ := id hT
  have q1 := h6 a ha b hb
  have q2 := h2 a ha
  have q3 := h2 b q1.1
  have hab : a ≠ b := by rintro rfl; omega
  refine g_aload_n (q := 1) B dJ40_rotateLeft_0 rfl rfl (rv_r _) ?_
  refine g_ifnull_r (q := 4) B dJ40_rotateLeft_1 rfl ?_
  refine g_aload_n (q := 5) B dJ40_rotateLeft_4 rfl rfl (rv_r _) ?_
  refine g_getM (v := .ref b) (q := 8) B (ci := 25) (k := 0) (j := 8) in_J40 rfl dJ40_rotateLeft_5 rfl rfl (TNG.mem hw0 ha) (Nat.le_of_ble_eq_true rfl) q1744 rfl (congrArg some (congrArg va_rf hb)) ?_
  refine g_dup (q := 9) B dJ40_rotateLeft_8 rfl rfl ?_
  refine g_astore_n (q := 10) (lv2 := [some (.ref root), some (.ref a), some (.ref b), none, none]) B dJ40_rotateLeft_9 rfl (Nat.le_of_ble_eq_true rfl) (rv_r _) rfl ?_
  refine g_ifnull_r (q := 13) B dJ40_rotateLeft_10 rfl ?_
  refine g_aload_n (q := 14) B dJ40_rotateLeft_13 rfl rfl (rv_r _) ?_
  refine g_aload_n (q := 15) B dJ40_rotateLeft_14 rfl rfl (rv_r _) ?_
  refine g_getM (v := va_rf (lf b)) (q := 18) B (ci := 25) (k := 0) (j := 7) in_J40 rfl dJ40_rotateLeft_15 rfl rfl (TNG.mem hw0 q1.1) (Nat.le_of_ble_eq_true rfl) q1743 rfl rfl ?_
  refine g_dup_x1 (q := 19) B dJ40_rotateLeft_18 rfl (rv_c (rv_o _)) rfl ?_
  refine g_putTNG8 (q := 22) (k := 0) (x := lf b) B hw0 ha dJ40_rotateLeft_19 rfl rfl q1744 (Or.inl rfl) (fun wa_1_19 hwa_1_19 => ?_)
  refine (show Go g κ 22 [some (.ref root), some (.ref a), some (.ref b), none, none] [va_rf (lf b)] [wa_1_19] 0 0 from ?_)
  refine g_dup (q := 23) B dJ40_rotateLeft_22 rfl (rv_c (rv_o _)) ?_
  refine g_astore (q := 25) (lv2 := [some (.ref root), some (.ref a), some (.ref b), none, some (va_rf (lf b))]) B dJ40_rotateLeft_23 rfl (Nat.le_of_ble_eq_true rfl) (rv_o _) rfl ?_
  refine g_ifnull_o (tgt := 34) (q := 28) B dJ40_rotateLeft_25 rfl (by decide) (fun c25 => ?_) (fun lfb_a25 c25 => ?_)
  · skip
    rw [c25]
    refine (show Go g κ 34 [some (.ref root), some (.ref a), some (.ref b), none, some (.null)] [] [wa_1_19] 0 0 from ?_)
    refine g_aload_n (q := 35) B dJ40_rotateLeft_34 rfl rfl (rv_r _) ?_
    refine g_aload_n (q := 36) B dJ40_rotateLeft_35 rfl rfl (rv_r _) ?_
    refine g_getM (v := va_rf (pp a)) (q := 39) B (ci := 25) (k := 0) (j := 6) in_J40 rfl dJ40_rotateLeft_36 rfl rfl (TNG.mem hwa_1_19 ha) (Nat.le_of_ble_eq_true rfl) q1742 rfl rfl ?_
    refine g_dup_x1 (q := 40) B dJ40_rotateLeft_39 rfl (rv_c (rv_o _)) rfl ?_
    refine g_putTNG6 (q := 43) (k := 0) (x := pp a) B hwa_1_19 q1.1 dJ40_rotateLeft_40 rfl rfl q1742 (Or.inl rfl) (fun wa_2_40 hwa_2_40 => ?_)
    refine (show Go g κ 43 [some (.ref root), some (.ref a), some (.ref b), none, some (.null)] [va_rf (pp a)] [wa_2_40] 0 0 from ?_)
    refine g_dup (q := 44) B dJ40_rotateLeft_43 rfl (rv_c (rv_o _)) ?_
    refine g_astore_n (q := 45) (lv2 := [some (.ref root), some (.ref a), some (.ref b), some (va_rf (pp a)), some (.null)]) B dJ40_rotateLeft_44 rfl (Nat.le_of_ble_eq_true rfl) (rv_o _) rfl ?_
    refine g_ifnonnull_o (tgt := 58) (q := 48) B dJ40_rotateLeft_45 rfl (by decide) (fun ppa_a45 c45 => ?_) (fun c45 => ?_)
    · skip
      rw [c45]
      refine (show Go g κ 58 [some (.ref root), some (.ref a), some (.ref b), some (.ref ppa_a45), some (.null)] [] [wa_2_40] 0 0 from ?_)
      have q6 := h8 a ha ppa_a45 c45
      have q7 := h2 ppa_a45 q6.1
      have q8 := h4 ppa_a45 q6.1
      have q9 := h6 ppa_a45 q6.1
      have hpa : ppa_a45 ≠ a := by rintro rfl; grind
      have hpb : ppa_a45 ≠ b := by rintro rfl; grind
      refine g_aload_n (q := 59) B dJ40_rotateLeft_58 rfl rfl (rv_r _) ?_
      refine g_getM (v := va_rf (lf ppa_a45)) (q := 62) B (ci := 25) (k := 0) (j := 7) in_J40 rfl dJ40_rotateLeft_59 rfl rfl (TNG.mem hwa_2_40 q6.1) (Nat.le_of_ble_eq_true rfl) q1743 rfl rfl ?_
      refine g_aload_n (q := 63) B dJ40_rotateLeft_62 rfl rfl (rv_r _) ?_
      refine g_acmp_ne (rx := lf ppa_a45) (ry := some a) (tgt := 74) (q := 66) B dJ40_rotateLeft_63 rfl (by decide) rfl rfl (Iff.rfl) (fun c63 => ?_) (fun c63 => ?_)
      · skip
        refine g_aload_n (q := 75) B dJ40_rotateLeft_74 rfl rfl (rv_r _) ?_
        refine g_aload_n (q := 76) B dJ40_rotateLeft_75 rfl rfl (rv_r _) ?_
        refine g_putTNG8 (q := 79) (k := 0) (x := some b) B hwa_2_40 q6.1 dJ40_rotateLeft_76 rfl rfl q1744 (Or.inl rfl) (fun wa_3_76 hwa_3_76 => ?_)
        refine (show Go g κ 79 [some (.ref root), some (.ref a), some (.ref b), some (.ref ppa_a45), some (.null)] [] [wa_3_76] 0 0 from ?_)
        refine g_aload_n (q := 80) B dJ40_rotateLeft_79 rfl rfl (rv_r _) ?_
        refine g_aload_n (q := 81) B dJ40_rotateLeft_80 rfl rfl (rv_r _) ?_
        refine g_putTNG7 (q := 84) (k := 0) (x := some a) B hwa_3_76 q1.1 dJ40_rotateLeft_81 rfl rfl q1743 (Or.inl rfl) (fun wa_4_81 hwa_4_81 => ?_)
        refine (show Go g κ 84 [some (.ref root), some (.ref a), some (.ref b), some (.ref ppa_a45), some (.null)] [] [wa_4_81] 0 0 from ?_)
        refine g_aload_n (q := 85) B dJ40_rotateLeft_84 rfl rfl (rv_r _) ?_
        refine g_aload_n (q := 86) B dJ40_rotateLeft_85 rfl rfl (rv_r _) ?_
        refine g_putTNG6 (q := 89) (k := 0) (x := some b) B hwa_4_81 ha dJ40_rotateLeft_86 rfl rfl q1742 (Or.inl rfl) (fun wa_5_86 hwa_5_86 => ?_)
        refine (show Go g κ 89 [some (.ref root), some (.ref a), some (.ref b), some (.ref ppa_a45), some (.null)] [] [wa_5_86] 0 0 from ?_)
        refine g_aload_n (q := 90) B dJ40_rotateLeft_89 rfl rfl (rv_r _) ?_
        have hl1 : ∀ d ∈ ns, lf d = some a → pp a = some d := fun d hd e => (h4 d hd a e).2.1
        have hr1 : ∀ d ∈ ns, rg d = some a → pp a = some d := fun d hd e => (h6 d hd a e).2.1
        have hfin : TNG g ns hs ky vl nx (rlP lf pp a b) (rlL lf a b) (rlR lf rg a b) pv rd wa_5_86 := TNG.congr hwa_5_86 (fun d hd => by
          have z1 := hl1 d hd
          have z2 := hr1 d hd
          have z3 := fun e1 => tr_lr (x := a) (b := d) hT hd e1
          clear hT h1 h2 h3 h4 h5 h6 h7 h8 h9 h10 hl1 hr1 E B tb
          try clear q8 q9
          try have q6 := q6.2
          refine ⟨rfl, rfl, rfl, rfl, ?_, ?_, ?_, rfl, rfl⟩ <;> grind [fup, rlL, rlR, rlP])
        have hrt : rlRoot (some root) a b = some root := by
          unfold rlRoot; grind
        exact g_aret B E dJ40_rotateLeft_90 (by first | exact Or.inl ⟨_, rfl⟩ | exact Or.inr ⟨_, rfl⟩) (rv_r _) (⟨root, rd, wa_5_86, rfl, rfl, hfin, hrt, by rw [← hrt]; exact tr_rotL hT ha hb, fun d hd => Or.inl rfl⟩)
      · skip
        refine g_aload_n (q := 67) B dJ40_rotateLeft_66 rfl rfl (rv_r _) ?_
        refine g_aload_n (q := 68) B dJ40_rotateLeft_67 rfl rfl (rv_r _) ?_
        refine g_putTNG7 (q := 71) (k := 0) (x := some b) B hwa_2_40 q6.1 dJ40_rotateLeft_68 rfl rfl q1743 (Or.inl rfl) (fun wa_6_68 hwa_6_68 => ?_)
        refine (show Go g κ 71 [some (.ref root), some (.ref a), some (.ref b), some (.ref ppa_a45), some (.null)] [] [wa_6_68] 0 0 from ?_)
        refine g_goto (tgt := 79) B dJ40_rotateLeft_71 (by decide) ?_
        refine g_aload_n (q := 80) B dJ40_rotateLeft_79 rfl rfl (rv_r _) ?_
        refine g_aload_n (q := 81) B dJ40_rotateLeft_80 rfl rfl (rv_r _) ?_
        refine g_putTNG7 (q := 84) (k := 0) (x := some a) B hwa_6_68 q1.1 dJ40_rotateLeft_81 rfl rfl q1743 (Or.inl rfl) (fun wa_7_81 hwa_7_81 => ?_)
        refine (show Go g κ 84 [some (.ref root), some (.ref a), some (.ref b), some (.ref ppa_a45), some (.null)] [] [wa_7_81] 0 0 from ?_)
        refine g_aload_n (q := 85) B dJ40_rotateLeft_84 rfl rfl (rv_r _) ?_
        refine g_aload_n (q := 86) B dJ40_rotateLeft_85 rfl rfl (rv_r _) ?_
        refine g_putTNG6 (q := 89) (k := 0) (x := some b) B hwa_7_81 ha dJ40_rotateLeft_86 rfl rfl q1742 (Or.inl rfl) (fun wa_8_86 hwa_8_86 => ?_)
        refine (show Go g κ 89 [some (.ref root), some (.ref a), some (.ref b), some (.ref ppa_a45), some (.null)] [] [wa_8_86] 0 0 from ?_)
        refine g_aload_n (q := 90) B dJ40_rotateLeft_89 rfl rfl (rv_r _) ?_
        have hl1 : ∀ d ∈ ns, lf d = some a → pp a = some d := fun d hd e => (h4 d hd a e).2.1
        have hr1 : ∀ d ∈ ns, rg d = some a → pp a = some d := fun d hd e => (h6 d hd a e).2.1
        have hfin : TNG g ns hs ky vl nx (rlP lf pp a b) (rlL lf a b) (rlR lf rg a b) pv rd wa_8_86 := TNG.congr hwa_8_86 (fun d hd => by
          have z1 := hl1 d hd
          have z2 := hr1 d hd
          have z3 := fun e1 => tr_lr (x := a) (b := d) hT hd e1
          clear hT h1 h2 h3 h4 h5 h6 h7 h8 h9 h10 hl1 hr1 E B tb
          try clear q8 q9
          try have q6 := q6.2
          refine ⟨rfl, rfl, rfl, rfl, ?_, ?_, ?_, rfl, rfl⟩ <;> grind [fup, rlL, rlR, rlP])
        have hrt : rlRoot (some root) a b = some root := by
          unfold rlRoot; grind
        exact g_aret B E dJ40_rotateLeft_90 (by first | exact Or.inl ⟨_, rfl⟩ | exact Or.inr ⟨_, rfl⟩) (rv_r _) (⟨root, rd, wa_8_86, rfl, rfl, hfin, hrt, by rw [← hrt]; exact tr_rotL hT ha hb, fun d hd => Or.inl rfl⟩)
    · skip
      rw [c45]
      refine (show Go g κ 48 [some (.ref root), some (.ref a), some (.ref b), some (.null), some (.null)] [] [wa_2_40] 0 0 from ?_)
      refine g_aload_n (q := 49) B dJ40_rotateLeft_48 rfl rfl (rv_r _) ?_
      refine g_dup (q := 50) B dJ40_rotateLeft_49 rfl rfl ?_
      refine g_astore_n (q := 51) (lv2 := [some (.ref b), some (.ref a), some (.ref b), some (.null), some (.null)]) B dJ40_rotateLeft_50 rfl (Nat.le_of_ble_eq_true rfl) (rv_r _) rfl ?_
      refine g_iconst (v := nI 0) (q := 52) B dJ40_rotateLeft_51 rfl (by decide) ?_
      refine g_putTNG10 (q := 55) (k := 0) (x := false) B hwa_2_40 q1.1 dJ40_rotateLeft_52 rfl rfl q1747 (Or.inl rfl) (fun wa_9_52 hwa_9_52 => ?_)
      refine (show Go g κ 55 [some (.ref b), some (.ref a), some (.ref b), some (.null), some (.null)] [] [wa_9_52] 0 0 from ?_)
      refine g_goto (tgt := 79) B dJ40_rotateLeft_55 (by decide) ?_
      refine g_aload_n (q := 80) B dJ40_rotateLeft_79 rfl rfl (rv_r _) ?_
      refine g_aload_n (q := 81) B dJ40_rotateLeft_80 rfl rfl (rv_r _) ?_
      refine g_putTNG7 (q := 84) (k := 0) (x := some a) B hwa_9_52 q1.1 dJ40_rotateLeft_81 rfl rfl q1743 (Or.inl rfl) (fun wa_10_81 hwa_10_81 => ?_)
      refine (show Go g κ 84 [some (.ref b), some (.ref a), some (.ref b), some (.null), some (.null)] [] [wa_10_81] 0 0 from ?_)
      refine g_aload_n (q := 85) B dJ40_rotateLeft_84 rfl rfl (rv_r _) ?_
      refine g_aload_n (q := 86) B dJ40_rotateLeft_85 rfl rfl (rv_r _) ?_
      refine g_putTNG6 (q := 89) (k := 0) (x := some b) B hwa_10_81 ha dJ40_rotateLeft_86 rfl rfl q1742 (Or.inl rfl) (fun wa_11_86 hwa_11_86 => ?_)
      refine (show Go g κ 89 [some (.ref b), some (.ref a), some (.ref b), some (.null), some (.null)] [] [wa_11_86] 0 0 from ?_)
      refine g_aload_n (q := 90) B dJ40_rotateLeft_89 rfl rfl (rv_r _) ?_
      have hl1 : ∀ d ∈ ns, lf d = some a → pp a = some d := fun d hd e => (h4 d hd a e).2.1
      have hr1 : ∀ d ∈ ns, rg d = some a → pp a = some d := fun d hd e => (h6 d hd a e).2.1
      have hfin : TNG g ns hs ky vl nx (rlP lf pp a b) (rlL lf a b) (rlR lf rg a b) pv (fup rd b false) wa_11_86 := TNG.congr hwa_11_86 (fun d hd => by
        have z1 := hl1 d hd
        have z2 := hr1 d hd
        have z3 := fun e1 => tr_lr (x := a) (b := d) hT hd e1
        clear hT h1 h2 h3 h4 h5 h6 h7 h8 h9 h10 hl1 hr1 E B tb
        try clear q8 q9
        try have q6 := q6.2
        refine ⟨rfl, rfl, rfl, rfl, ?_, ?_, ?_, rfl, rfl⟩ <;> grind [fup, rlL, rlR, rlP])
      have hrt : rlRoot (some root) a b = some b := by
        unfold rlRoot; grind
      exact g_aret B E dJ40_rotateLeft_90 (by first | exact Or.inl ⟨_, rfl⟩ | exact Or.inr ⟨_, rfl⟩) (rv_r _) (⟨b, (fup rd b false), wa_11_86, rfl, rfl, hfin, hrt, by rw [← hrt]; exact tr_rotL hT ha hb, fun d hd => by simp only [fup]; split <;> simp_all⟩)
  · skip
    rw [c25]
    refine (show Go g κ 28 [some (.ref root), some (.ref a), some (.ref b), none, some (.ref lfb_a25)] [] [wa_1_19] 0 0 from ?_)
    have q4 := h4 b q1.1 lfb_a25 c25
    have q5 := h2 lfb_a25 q4.1
    have hca : lfb_a25 ≠ a := by rintro rfl; omega
    have hcb : lfb_a25 ≠ b := by rintro rfl; omega
    refine g_aload (q := 30) B dJ40_rotateLeft_28 rfl rfl (rv_r _) ?_
    refine g_aload_n (q := 31) B dJ40_rotateLeft_30 rfl rfl (rv_r _) ?_
    refine g_putTNG6 (q := 34) (k := 0) (x := some a) B hwa_1_19 q4.1 dJ40_rotateLeft_31 rfl rfl q1742 (Or.inl rfl) (fun wa_12_31 hwa_12_31 => ?_)
    refine (show Go g κ 34 [some (.ref root), some (.ref a), some (.ref b), none, some (.ref lfb_a25)] [] [wa_12_31] 0 0 from ?_)
    refine g_aload_n (q := 35) B dJ40_rotateLeft_34 rfl rfl (rv_r _) ?_
    refine g_aload_n (q := 36) B dJ40_rotateLeft_35 rfl rfl (rv_r _) ?_
    refine g_getM (v := va_rf (pp a)) (q := 39) B (ci := 25) (k := 0) (j := 6) in_J40 rfl dJ40_rotateLeft_36 rfl rfl (TNG.mem hwa_12_31 ha) (Nat.le_of_ble_eq_true rfl) q1742 rfl (congrArg some (congrArg va_rf (fup_n (Ne.symm hca)))) ?_
    refine g_dup_x1 (q := 40) B dJ40_rotateLeft_39 rfl (rv_c (rv_o _)) rfl ?_
    refine g_putTNG6 (q := 43) (k := 0) (x := pp a) B hwa_12_31 q1.1 dJ40_rotateLeft_40 rfl rfl q1742 (Or.inl rfl) (fun wa_13_40 hwa_13_40 => ?_)
    refine (show Go g κ 43 [some (.ref root), some (.ref a), some (.ref b), none, some (.ref lfb_a25)] [va_rf (pp a)] [wa_13_40] 0 0 from ?_)
    refine g_dup (q := 44) B dJ40_rotateLeft_43 rfl (rv_c (rv_o _)) ?_
    refine g_astore_n (q := 45) (lv2 := [some (.ref root), some (.ref a), some (.ref b), some (va_rf (pp a)), some (.ref lfb_a25)]) B dJ40_rotateLeft_44 rfl (Nat.le_of_ble_eq_true rfl) (rv_o _) rfl ?_
    refine g_ifnonnull_o (tgt := 58) (q := 48) B dJ40_rotateLeft_45 rfl (by decide) (fun ppa_a45 c45 => ?_) (fun c45 => ?_)
    · skip
      rw [c45]
      refine (show Go g κ 58 [some (.ref root), some (.ref a), some (.ref b), some (.ref ppa_a45), some (.ref lfb_a25)] [] [wa_13_40] 0 0 from ?_)
      have q6 := h8 a ha ppa_a45 c45
      have q7 := h2 ppa_a45 q6.1
      have q8 := h4 ppa_a45 q6.1
      have q9 := h6 ppa_a45 q6.1
      have hpa : ppa_a45 ≠ a := by rintro rfl; grind
      have hpb : ppa_a45 ≠ b := by rintro rfl; grind
      have hpc : ppa_a45 ≠ lfb_a25 := by rintro rfl; grind
      refine g_aload_n (q := 59) B dJ40_rotateLeft_58 rfl rfl (rv_r _) ?_
      refine g_getM (v := va_rf (lf ppa_a45)) (q := 62) B (ci := 25) (k := 0) (j := 7) in_J40 rfl dJ40_rotateLeft_59 rfl rfl (TNG.mem hwa_13_40 q6.1) (Nat.le_of_ble_eq_true rfl) q1743 rfl rfl ?_
      refine g_aload_n (q := 63) B dJ40_rotateLeft_62 rfl rfl (rv_r _) ?_
      refine g_acmp_ne (rx := lf ppa_a45) (ry := some a) (tgt := 74) (q := 66) B dJ40_rotateLeft_63 rfl (by decide) rfl rfl (Iff.rfl) (fun c63 => ?_) (fun c63 => ?_)
      · skip
        refine g_aload_n (q := 75) B dJ40_rotateLeft_74 rfl rfl (rv_r _) ?_
        refine g_aload_n (q := 76) B dJ40_rotateLeft_75 rfl rfl (rv_r _) ?_
        refine g_putTNG8 (q := 79) (k := 0) (x := some b) B hwa_13_40 q6.1 dJ40_rotateLeft_76 rfl rfl q1744 (Or.inl rfl) (fun wa_14_76 hwa_14_76 => ?_)
        refine (show Go g κ 79 [some (.ref root), some (.ref a), some (.ref b), some (.ref ppa_a45), some (.ref lfb_a25)] [] [wa_14_76] 0 0 from ?_)
        refine g_aload_n (q := 80) B dJ40_rotateLeft_79 rfl rfl (rv_r _) ?_
        refine g_aload_n (q := 81) B dJ40_rotateLeft_80 rfl rfl (rv_r _) ?_
        refine g_putTNG7 (q := 84) (k := 0) (x := some a) B hwa_14_76 q1.1 dJ40_rotateLeft_81 rfl rfl q1743 (Or.inl rfl) (fun wa_15_81 hwa_15_81 => ?_)
        refine (show Go g κ 84 [some (.ref root), some (.ref a), some (.ref b), some (.ref ppa_a45), some (.ref lfb_a25)] [] [wa_15_81] 0 0 from ?_)
        refine g_aload_n (q := 85) B dJ40_rotateLeft_84 rfl rfl (rv_r _) ?_
        refine g_aload_n (q := 86) B dJ40_rotateLeft_85 rfl rfl (rv_r _) ?_
        refine g_putTNG6 (q := 89) (k := 0) (x := some b) B hwa_15_81 ha dJ40_rotateLeft_86 rfl rfl q1742 (Or.inl rfl) (fun wa_16_86 hwa_16_86 => ?_)
        refine (show Go g κ 89 [some (.ref root), some (.ref a), some (.ref b), some (.ref ppa_a45), some (.ref lfb_a25)] [] [wa_16_86] 0 0 from ?_)
        refine g_aload_n (q := 90) B dJ40_rotateLeft_89 rfl rfl (rv_r _) ?_
        have hl1 : ∀ d ∈ ns, lf d = some a → pp a = some d := fun d hd e => (h4 d hd a e).2.1
        have hr1 : ∀ d ∈ ns, rg d = some a → pp a = some d := fun d hd e => (h6 d hd a e).2.1
        have hfin : TNG g ns hs ky vl nx (rlP lf pp a b) (rlL lf a b) (rlR lf rg a b) pv rd wa_16_86 := TNG.congr hwa_16_86 (fun d hd => by
          have z1 := hl1 d hd
          have z2 := hr1 d hd
          have z3 := fun e1 => tr_lr (x := a) (b := d) hT hd e1
          clear hT h1 h2 h3 h4 h5 h6 h7 h8 h9 h10 hl1 hr1 E B tb
          try clear q8 q9
          try have q6 := q6.2
          refine ⟨rfl, rfl, rfl, rfl, ?_, ?_, ?_, rfl, rfl⟩ <;> grind [fup, rlL, rlR, rlP])
        have hrt : rlRoot (some root) a b = some root := by
          unfold rlRoot; grind
        exact g_aret B E dJ40_rotateLeft_90 (by first | exact Or.inl ⟨_, rfl⟩ | exact Or.inr ⟨_, rfl⟩) (rv_r _) (⟨root, rd, wa_16_86, rfl, rfl, hfin, hrt, by rw [← hrt]; exact tr_rotL hT ha hb, fun d hd => Or.inl rfl⟩)
      · skip
        refine g_aload_n (q := 67) B dJ40_rotateLeft_66 rfl rfl (rv_r _) ?_
        refine g_aload_n (q := 68) B dJ40_rotateLeft_67 rfl rfl (rv_r _) ?_
        refine g_putTNG7 (q := 71) (k := 0) (x := some b) B hwa_13_40 q6.1 dJ40_rotateLeft_68 rfl rfl q1743 (Or.inl rfl) (fun wa_17_68 hwa_17_68 => ?_)
        refine (show Go g κ 71 [some (.ref root), some (.ref a), some (.ref b), some (.ref ppa_a45), some (.ref lfb_a25)] [] [wa_17_68] 0 0 from ?_)
        refine g_goto (tgt := 79) B dJ40_rotateLeft_71 (by decide) ?_
        refine g_aload_n (q := 80) B dJ40_rotateLeft_79 rfl rfl (rv_r _) ?_
        refine g_aload_n (q := 81) B dJ40_rotateLeft_80 rfl rfl (rv_r _) ?_
        refine g_putTNG7 (q := 84) (k := 0) (x := some a) B hwa_17_68 q1.1 dJ40_rotateLeft_81 rfl rfl q1743 (Or.inl rfl) (fun wa_18_81 hwa_18_81 => ?_)
        refine (show Go g κ 84 [some (.ref root), some (.ref a), some (.ref b), some (.ref ppa_a45), some (.ref lfb_a25)] [] [wa_18_81] 0 0 from ?_)
        refine g_aload_n (q := 85) B dJ40_rotateLeft_84 rfl rfl (rv_r _) ?_
        refine g_aload_n (q := 86) B dJ40_rotateLeft_85 rfl rfl (rv_r _) ?_
        refine g_putTNG6 (q := 89) (k := 0) (x := some b) B hwa_18_81 ha dJ40_rotateLeft_86 rfl rfl q1742 (Or.inl rfl) (fun wa_19_86 hwa_19_86 => ?_)
        refine (show Go g κ 89 [some (.ref root), some (.ref a), some (.ref b), some (.ref ppa_a45), some (.ref lfb_a25)] [] [wa_19_86] 0 0 from ?_)
        refine g_aload_n (q := 90) B dJ40_rotateLeft_89 rfl rfl (rv_r _) ?_
        have hl1 : ∀ d ∈ ns, lf d = some a → pp a = some d := fun d hd e => (h4 d hd a e).2.1
        have hr1 : ∀ d ∈ ns, rg d = some a → pp a = some d := fun d hd e => (h6 d hd a e).2.1
        have hfin : TNG g ns hs ky vl nx (rlP lf pp a b) (rlL lf a b) (rlR lf rg a b) pv rd wa_19_86 := TNG.congr hwa_19_86 (fun d hd => by
          have z1 := hl1 d hd
          have z2 := hr1 d hd
          have z3 := fun e1 => tr_lr (x := a) (b := d) hT hd e1
          clear hT h1 h2 h3 h4 h5 h6 h7 h8 h9 h10 hl1 hr1 E B tb
          try clear q8 q9
          try have q6 := q6.2
          refine ⟨rfl, rfl, rfl, rfl, ?_, ?_, ?_, rfl, rfl⟩ <;> grind [fup, rlL, rlR, rlP])
        have hrt : rlRoot (some root) a b = some root := by
          unfold rlRoot; grind
        exact g_aret B E dJ40_rotateLeft_90 (by first | exact Or.inl ⟨_, rfl⟩ | exact Or.inr ⟨_, rfl⟩) (rv_r _) (⟨root, rd, wa_19_86, rfl, rfl, hfin, hrt, by rw [← hrt]; exact tr_rotL hT ha hb, fun d hd => Or.inl rfl⟩)
    · skip
      rw [c45]
      refine (show Go g κ 48 [some (.ref root), some (.ref a), some (.ref b), some (.null), some (.ref lfb_a25)] [] [wa_13_40] 0 0 from ?_)
      refine g_aload_n (q := 49) B dJ40_rotateLeft_48 rfl rfl (rv_r _) ?_
      refine g_dup (q := 50) B dJ40_rotateLeft_49 rfl rfl ?_
      refine g_astore_n (q := 51) (lv2 := [some (.ref b), some (.ref a), some (.ref b), some (.null), some (.ref lfb_a25)]) B dJ40_rotateLeft_50 rfl (Nat.le_of_ble_eq_true rfl) (rv_r _) rfl ?_
      refine g_iconst (v := nI 0) (q := 52) B dJ40_rotateLeft_51 rfl (by decide) ?_
      refine g_putTNG10 (q := 55) (k := 0) (x := false) B hwa_13_40 q1.1 dJ40_rotateLeft_52 rfl rfl q1747 (Or.inl rfl) (fun wa_20_52 hwa_20_52 => ?_)
      refine (show Go g κ 55 [some (.ref b), some (.ref a), some (.ref b), some (.null), some (.ref lfb_a25)] [] [wa_20_52] 0 0 from ?_)
      refine g_goto (tgt := 79) B dJ40_rotateLeft_55 (by decide) ?_
      refine g_aload_n (q := 80) B dJ40_rotateLeft_79 rfl rfl (rv_r _) ?_
      refine g_aload_n (q := 81) B dJ40_rotateLeft_80 rfl rfl (rv_r _) ?_
      refine g_putTNG7 (q := 84) (k := 0) (x := some a) B hwa_20_52 q1.1 dJ40_rotateLeft_81 rfl rfl q1743 (Or.inl rfl) (fun wa_21_81 hwa_21_81 => ?_)
      refine (show Go g κ 84 [some (.ref b), some (.ref a), some (.ref b), some (.null), some (.ref lfb_a25)] [] [wa_21_81] 0 0 from ?_)
      refine g_aload_n (q := 85) B dJ40_rotateLeft_84 rfl rfl (rv_r _) ?_
      refine g_aload_n (q := 86) B dJ40_rotateLeft_85 rfl rfl (rv_r _) ?_
      refine g_putTNG6 (q := 89) (k := 0) (x := some b) B hwa_21_81 ha dJ40_rotateLeft_86 rfl rfl q1742 (Or.inl rfl) (fun wa_22_86 hwa_22_86 => ?_)
      refine (show Go g κ 89 [some (.ref b), some (.ref a), some (.ref b), some (.null), some (.ref lfb_a25)] [] [wa_22_86] 0 0 from ?_)
      refine g_aload_n (q := 90) B dJ40_rotateLeft_89 rfl rfl (rv_r _) ?_
      have hl1 : ∀ d ∈ ns, lf d = some a → pp a = some d := fun d hd e => (h4 d hd a e).2.1
      have hr1 : ∀ d ∈ ns, rg d = some a → pp a = some d := fun d hd e => (h6 d hd a e).2.1
      have hfin : TNG g ns hs ky vl nx (rlP lf pp a b) (rlL lf a b) (rlR lf rg a b) pv (fup rd b false) wa_22_86 := TNG.congr hwa_22_86 (fun d hd => by
        have z1 := hl1 d hd
        have z2 := hr1 d hd
        have z3 := fun e1 => tr_lr (x := a) (b := d) hT hd e1
        clear hT h1 h2 h3 h4 h5 h6 h7 h8 h9 h10 hl1 hr1 E B tb
        try clear q8 q9
        try have q6 := q6.2
        refine ⟨rfl, rfl, rfl, rfl, ?_, ?_, ?_, rfl, rfl⟩ <;> grind [fup, rlL, rlR, rlP])
      have hrt : rlRoot (some root) a b = some b := by
        unfold rlRoot; grind
      exact g_aret B E dJ40_rotateLeft_90 (by first | exact Or.inl ⟨_, rfl⟩ | exact Or.inr ⟨_, rfl⟩) (rv_r _) (⟨b, (fup rd b false), wa_22_86, rfl, rfl, hfin, hrt, by rw [← hrt]; exact tr_rotL hT ha hb, fun d hd => by simp only [fup]; split <;> simp_all⟩)
theorem ct_J40_rotateRight (g : Gv) (J : Jd g) {ns : List Nat} {hs : Nat → Int32} {ky : Nat → Nat} {vl : Nat → Nat} {nx : Nat → Option Nat} {pp : Nat → Option Nat} {lf : Nat → Option Nat} {rg : Nat → Option Nat} {pv : Nat → Option Nat} {rd : Nat → Bool} {key : Nat → Nat} {lo : Nat → Nat} {hi : Nat → Nat} {root : Nat} {a : Nat} {b : Nat} {w0 : va_W} (hw0 : TNG g ns hs ky vl nx pp lf rg pv rd w0) (hT : Tr ns key lf rg pp lo hi (some root) 4294967296) (ha : a ∈ ns) (hb : lf a = some b) : Ct g yJ40_rotateRight (ws_ yJ40_rotateRight cJ40_rotateRight 5 (some (.object "java/util/HashMap$TreeNode"))) 0 0 0 [.ref root, .ref a] [w0] (fun (rv_ : Option Value) (rL_ : List va_W) => ∃ (root2 : Nat) (rd2 : Nat → Bool) (u0 : va_W), rv_ = some (.ref root2) ∧ rL_ = [u0] ∧ TNG g ns hs ky vl nx (rrP rg pp a b) (rrL lf rg a b) (rrR rg a b) pv rd2 u0 ∧ (rlRoot (some root) a b = some root2) ∧ (Tr ns key (rrL lf rg a b) (rrR rg a b) (rrP rg pp a b) (fup (fup lo b (lo a)) a (key b + 1)) (fup hi b (hi a)) (some root2) 4294967296) ∧ (∀ d ∈ ns, rd2 d = rd d ∨ (d = b ∧ rd2 d = false))) noX := by
  refine Ct.of "java/util/HashMap$TreeNode" [some (.ref root), some (.ref a), none, none, none] rfl (by decide) rfl (Nat.le_of_ble_eq_true rfl) rfl ?_
  intro κ B E tb
  obtain ⟨h1, h2, h3, h4, h5, h6, h7, h8, h9, h10⟩ := id hT
  have q1 := h4 a ha b hb
  have q2 := h2 a ha
  have q3 := h2 b q1.1
  have hab : a ≠ b := by rintro rfl; omega
  refine g_aload_n (q := 1) B dJ40_rotateRight_0 rfl rfl (rv_r _) ?_
  refine g_ifnull_r (q := 4) B dJ40_rotateRight_1 rfl ?_
  refine g_aload_n (q := 5) B dJ40_rotateRight_4 rfl rfl (rv_r _) ?_
  refine g_getM (v := .ref b) (q := 8) B (ci := 25) (k := 0) (j := 7) in_J40 rfl dJ40_rotateRight_5 rfl rfl (TNG.mem hw0 ha) (Nat.le_of_ble_eq_true rfl) q1743 rfl (congrArg some (congrArg va_rf hb)) ?_
  refine g_dup (q := 9) B dJ40_rotateRight_8 rfl rfl ?_
  refine g_astore_n (q := 10) (lv2 := [some (.ref root), some (.ref a), some (.ref b), none, none]) B dJ40_rotateRight_9 rfl (Nat.le_of_ble_eq_true rfl) (rv_r _) rfl ?_
  refine g_ifnull_r (q := 13) B dJ40_rotateRight_10 rfl ?_
  refine g_aload_n (q := 14) B dJ40_rotateRight_13 rfl rfl (rv_r _) ?_
  refine g_aload_n (q := 15) B dJ40_rotateRight_14 rfl rfl (rv_r _) ?_
  refine g_getM (v := va_rf (rg b)) (q := 18) B (ci := 25) (k := 0) (j := 8) in_J40 rfl dJ40_rotateRight_15 rfl rfl (TNG.mem hw0 q1.1) (Nat.le_of_ble_eq_true rfl) q1744 rfl rfl ?_
  refine g_dup_x1 (q := 19) B dJ40_rotateRight_18 rfl (rv_c (rv_o _)) rfl ?_
  refine g_putTNG7 (q := 22) (k := 0) (x := rg b) B hw0 ha dJ40_rotateRight_19 rfl rfl q1743 (Or.inl rfl) (fun wa_1_19 hwa_1_19 => ?_)
  refine (show Go g κ 22 [some (.ref root), some (.ref a), some (.ref b), none, none] [va_rf (rg b)] [wa_1_19] 0 0 from ?_)
  refine g_dup (q := 23) B dJ40_rotateRight_22 rfl (rv_c (rv_o _)) ?_
  refine g_astore (q := 25) (lv2 := [some (.ref root), some (.ref a), some (.ref b), none, some (va_rf (rg b))]) B dJ40_rotateRight_23 rfl (Nat.le_of_ble_eq_true rfl) (rv_o _) rfl ?_
  refine g_ifnull_o (tgt := 34) (q := 28) B dJ40_rotateRight_25 rfl (by decide) (fun c25 => ?_) (fun rgb_a25 c25 => ?_)
  · skip
    rw [c25]
    refine (show Go g κ 34 [some (.ref root), some (.ref a), some (.ref b), none, some (.null)] [] [wa_1_19] 0 0 from ?_)
    refine g_aload_n (q := 35) B dJ40_rotateRight_34 rfl rfl (rv_r _) ?_
    refine g_aload_n (q := 36) B dJ40_rotateRight_35 rfl rfl (rv_r _) ?_
    refine g_getM (v := va_rf (pp a)) (q := 39) B (ci := 25) (k := 0) (j := 6) in_J40 rfl dJ40_rotateRight_36 rfl rfl (TNG.mem hwa_1_19 ha) (Nat.le_of_ble_eq_true rfl) q1742 rfl rfl ?_
    refine g_dup_x1 (q := 40) B dJ40_rotateRight_39 rfl (rv_c (rv_o _)) rfl ?_
    refine g_putTNG6 (q := 43) (k := 0) (x := pp a) B hwa_1_19 q1.1 dJ40_rotateRight_40 rfl rfl q1742 (Or.inl rfl) (fun wa_2_40 hwa_2_40 => ?_)
    refine (show Go g κ 43 [some (.ref root), some (.ref a), some (.ref b), none, some (.null)] [va_rf (pp a)] [wa_2_40] 0 0 from ?_)
    refine g_dup (q := 44) B dJ40_rotateRight_43 rfl (rv_c (rv_o _)) ?_
    refine g_astore_n (q := 45) (lv2 := [some (.ref root), some (.ref a), some (.ref b), some (va_rf (pp a)), some (.null)]) B dJ40_rotateRight_44 rfl (Nat.le_of_ble_eq_true rfl) (rv_o _) rfl ?_
    refine g_ifnonnull_o (tgt := 58) (q := 48) B dJ40_rotateRight_45 rfl (by decide) (fun ppa_a45 c45 => ?_) (fun c45 => ?_)
    · skip
      rw [c45]
      refine (show Go g κ 58 [some (.ref root), some (.ref a), some (.ref b), some (.ref ppa_a45), some (.null)] [] [wa_2_40] 0 0 from ?_)
      have q6 := h8 a ha ppa_a45 c45
      have q7 := h2 ppa_a45 q6.1
      have q8 := h4 ppa_a45 q6.1
      have q9 := h6 ppa_a45 q6.1
      have hpa : ppa_a45 ≠ a := by rintro rfl; grind
      have hpb : ppa_a45 ≠ b := by rintro rfl; grind
      refine g_aload_n (q := 59) B dJ40_rotateRight_58 rfl rfl (rv_r _) ?_
      refine g_getM (v := va_rf (rg ppa_a45)) (q := 62) B (ci := 25) (k := 0) (j := 8) in_J40 rfl dJ40_rotateRight_59 rfl rfl (TNG.mem hwa_2_40 q6.1) (Nat.le_of_ble_eq_true rfl) q1744 rfl rfl ?_
      refine g_aload_n (q := 63) B dJ40_rotateRight_62 rfl rfl (rv_r _) ?_
      refine g_acmp_ne (rx := rg ppa_a45) (ry := some a) (tgt := 74) (q := 66) B dJ40_rotateRight_63 rfl (by decide) rfl rfl (Iff.rfl) (fun c63 => ?_) (fun c63 => ?_)
      · skip
        refine g_aload_n (q := 75) B dJ40_rotateRight_74 rfl rfl (rv_r _) ?_
        refine g_aload_n (q := 76) B dJ40_rotateRight_75 rfl rfl (rv_r _) ?_
        refine g_putTNG7 (q := 79) (k := 0) (x := some b) B hwa_2_40 q6.1 dJ40_rotateRight_76 rfl rfl q1743 (Or.inl rfl) (fun wa_3_76 hwa_3_76 => ?_)
        refine (show Go g κ 79 [some (.ref root), some (.ref a), some (.ref b), some (.ref ppa_a45), some (.null)] [] [wa_3_76] 0 0 from ?_)
        refine g_aload_n (q := 80) B dJ40_rotateRight_79 rfl rfl (rv_r _) ?_
        refine g_aload_n (q := 81) B dJ40_rotateRight_80 rfl rfl (rv_r _) ?_
        refine g_putTNG8 (q := 84) (k := 0) (x := some a) B hwa_3_76 q1.1 dJ40_rotateRight_81 rfl rfl q1744 (Or.inl rfl) (fun wa_4_81 hwa_4_81 => ?_)
        refine (show Go g κ 84 [some (.ref root), some (.ref a), some (.ref b), some (.ref ppa_a45), some (.null)] [] [wa_4_81] 0 0 from ?_)
        refine g_aload_n (q := 85) B dJ40_rotateRight_84 rfl rfl (rv_r _) ?_
        refine g_aload_n (q := 86) B dJ40_rotateRight_85 rfl rfl (rv_r _) ?_
        refine g_putTNG6 (q := 89) (k := 0) (x := some b) B hwa_4_81 ha dJ40_rotateRight_86 rfl rfl q1742 (Or.inl rfl) (fun wa_5_86 hwa_5_86 => ?_)
        refine (show Go g κ 89 [some (.ref root), some (.ref a), some (.ref b), some (.ref ppa_a45), some (.null)] [] [wa_5_86] 0 0 from ?_)
        refine g_aload_n (q := 90) B dJ40_rotateRight_89 rfl rfl (rv_r _) ?_
        have hl1 : ∀ d ∈ ns, lf d = some a → pp a = some d := fun d hd e => (h4 d hd a e).2.1
        have hr1 : ∀ d ∈ ns, rg d = some a → pp a = some d := fun d hd e => (h6 d hd a e).2.1
        have hfin : TNG g ns hs ky vl nx (rrP rg pp a b) (rrL lf rg a b) (rrR rg a b) pv rd wa_5_86 := TNG.congr hwa_5_86 (fun d hd => by
          have z1 := hl1 d hd
          have z2 := hr1 d hd
          have z3 := fun e1 => tr_lr (x := a) (b := d) hT hd e1
          clear hT h1 h2 h3 h4 h5 h6 h7 h8 h9 h10 hl1 hr1 E B tb
          try clear q8 q9
          try have q6 := q6.2
          refine ⟨rfl, rfl, rfl, rfl, ?_, ?_, ?_, rfl, rfl⟩ <;> grind [fup, rrL, rrR, rrP])
        have hrt : rlRoot (some root) a b = some root := by
          unfold rlRoot; grind
        exact g_aret B E dJ40_rotateRight_90 (by first | exact Or.inl ⟨_, rfl⟩ | exact Or.inr ⟨_, rfl⟩) (rv_r _) (⟨root, rd, wa_5_86, rfl, rfl, hfin, hrt, by rw [← hrt]; exact tr_rotR hT ha hb, fun d hd => Or.inl rfl⟩)
      · skip
        refine g_aload_n (q := 67) B dJ40_rotateRight_66 rfl rfl (rv_r _) ?_
        refine g_aload_n (q := 68) B dJ40_rotateRight_67 rfl rfl (rv_r _) ?_
        refine g_putTNG8 (q := 71) (k := 0) (x := some b) B hwa_2_40 q6.1 dJ40_rotateRight_68 rfl rfl q1744 (Or.inl rfl) (fun wa_6_68 hwa_6_68 => ?_)
        refine (show Go g κ 71 [some (.ref root), some (.ref a), some (.ref b), some (.ref ppa_a45), some (.null)] [] [wa_6_68] 0 0 from ?_)
        refine g_goto (tgt := 79) B dJ40_rotateRight_71 (by decide) ?_
        refine g_aload_n (q := 80) B dJ40_rotateRight_79 rfl rfl (rv_r _) ?_
        refine g_aload_n (q := 81) B dJ40_rotateRight_80 rfl rfl (rv_r _) ?_
        refine g_putTNG8 (q := 84) (k := 0) (x := some a) B hwa_6_68 q1.1 dJ40_rotateRight_81 rfl rfl q1744 (Or.inl rfl) (fun wa_7_81 hwa_7_81 => ?_)
        refine (show Go g κ 84 [some (.ref root), some (.ref a), some (.ref b), some (.ref ppa_a45), some (.null)] [] [wa_7_81] 0 0 from ?_)
        refine g_aload_n (q := 85) B dJ40_rotateRight_84 rfl rfl (rv_r _) ?_
        refine g_aload_n (q := 86) B dJ40_rotateRight_85 rfl rfl (rv_r _) ?_
        refine g_putTNG6 (q := 89) (k := 0) (x := some b) B hwa_7_81 ha dJ40_rotateRight_86 rfl rfl q1742 (Or.inl rfl) (fun wa_8_86 hwa_8_86 => ?_)
        refine (show Go g κ 89 [some (.ref root), some (.ref a), some (.ref b), some (.ref ppa_a45), some (.null)] [] [wa_8_86] 0 0 from ?_)
        refine g_aload_n (q := 90) B dJ40_rotateRight_89 rfl rfl (rv_r _) ?_
        have hl1 : ∀ d ∈ ns, lf d = some a → pp a = some d := fun d hd e => (h4 d hd a e).2.1
        have hr1 : ∀ d ∈ ns, rg d = some a → pp a = some d := fun d hd e => (h6 d hd a e).2.1
        have hfin : TNG g ns hs ky vl nx (rrP rg pp a b) (rrL lf rg a b) (rrR rg a b) pv rd wa_8_86 := TNG.congr hwa_8_86 (fun d hd => by
          have z1 := hl1 d hd
          have z2 := hr1 d hd
          have z3 := fun e1 => tr_lr (x := a) (b := d) hT hd e1
          clear hT h1 h2 h3 h4 h5 h6 h7 h8 h9 h10 hl1 hr1 E B tb
          try clear q8 q9
          try have q6 := q6.2
          refine ⟨rfl, rfl, rfl, rfl, ?_, ?_, ?_, rfl, rfl⟩ <;> grind [fup, rrL, rrR, rrP])
        have hrt : rlRoot (some root) a b = some root := by
          unfold rlRoot; grind
        exact g_aret B E dJ40_rotateRight_90 (by first | exact Or.inl ⟨_, rfl⟩ | exact Or.inr ⟨_, rfl⟩) (rv_r _) (⟨root, rd, wa_8_86, rfl, rfl, hfin, hrt, by rw [← hrt]; exact tr_rotR hT ha hb, fun d hd => Or.inl rfl⟩)
    · skip
      rw [c45]
      refine (show Go g κ 48 [some (.ref root), some (.ref a), some (.ref b), some (.null), some (.null)] [] [wa_2_40] 0 0 from ?_)
      refine g_aload_n (q := 49) B dJ40_rotateRight_48 rfl rfl (rv_r _) ?_
      refine g_dup (q := 50) B dJ40_rotateRight_49 rfl rfl ?_
      refine g_astore_n (q := 51) (lv2 := [some (.ref b), some (.ref a), some (.ref b), some (.null), some (.null)]) B dJ40_rotateRight_50 rfl (Nat.le_of_ble_eq_true rfl) (rv_r _) rfl ?_
      refine g_iconst (v := nI 0) (q := 52) B dJ40_rotateRight_51 rfl (by decide) ?_
      refine g_putTNG10 (q := 55) (k := 0) (x := false) B hwa_2_40 q1.1 dJ40_rotateRight_52 rfl rfl q1747 (Or.inl rfl) (fun wa_9_52 hwa_9_52 => ?_)
      refine (show Go g κ 55 [some (.ref b), some (.ref a), some (.ref b), some (.null), some (.null)] [] [wa_9_52] 0 0 from ?_)
      refine g_goto (tgt := 79) B dJ40_rotateRight_55 (by decide) ?_
      refine g_aload_n (q := 80) B dJ40_rotateRight_79 rfl rfl (rv_r _) ?_
      refine g_aload_n (q := 81) B dJ40_rotateRight_80 rfl rfl (rv_r _) ?_
      refine g_putTNG8 (q := 84) (k := 0) (x := some a) B hwa_9_52 q1.1 dJ40_rotateRight_81 rfl rfl q1744 (Or.inl rfl) (fun wa_10_81 hwa_10_81 => ?_)
      refine (show Go g κ 84 [some (.ref b), some (.ref a), some (.ref b), some (.null), some (.null)] [] [wa_10_81] 0 0 from ?_)
      refine g_aload_n (q := 85) B dJ40_rotateRight_84 rfl rfl (rv_r _) ?_
      refine g_aload_n (q := 86) B dJ40_rotateRight_85 rfl rfl (rv_r _) ?_
      refine g_putTNG6 (q := 89) (k := 0) (x := some b) B hwa_10_81 ha dJ40_rotateRight_86 rfl rfl q1742 (Or.inl rfl) (fun wa_11_86 hwa_11_86 => ?_)
      refine (show Go g κ 89 [some (.ref b), some (.ref a), some (.ref b), some (.null), some (.null)] [] [wa_11_86] 0 0 from ?_)
      refine g_aload_n (q := 90) B dJ40_rotateRight_89 rfl rfl (rv_r _) ?_
      have hl1 : ∀ d ∈ ns, lf d = some a → pp a = some d := fun d hd e => (h4 d hd a e).2.1
      have hr1 : ∀ d ∈ ns, rg d = some a → pp a = some d := fun d hd e => (h6 d hd a e).2.1
      have hfin : TNG g ns hs ky vl nx (rrP rg pp a b) (rrL lf rg a b) (rrR rg a b) pv (fup rd b false) wa_11_86 := TNG.congr hwa_11_86 (fun d hd => by
        have z1 := hl1 d hd
        have z2 := hr1 d hd
        have z3 := fun e1 => tr_lr (x := a) (b := d) hT hd e1
        clear hT h1 h2 h3 h4 h5 h6 h7 h8 h9 h10 hl1 hr1 E B tb
        try clear q8 q9
        try have q6 := q6.2
        refine ⟨rfl, rfl, rfl, rfl, ?_, ?_, ?_, rfl, rfl⟩ <;> grind [fup, rrL, rrR, rrP])
      have hrt : rlRoot (some root) a b = some b := by
        unfold rlRoot; grind
      exact g_aret B E dJ40_rotateRight_90 (by first | exact Or.inl ⟨_, rfl⟩ | exact Or.inr ⟨_, rfl⟩) (rv_r _) (⟨b, (fup rd b false), wa_11_86, rfl, rfl, hfin, hrt, by rw [← hrt]; exact tr_rotR hT ha hb, fun d hd => by simp only [fup]; split <;> simp_all⟩)
  · skip
    rw [c25]
    refine (show Go g κ 28 [some (.ref root), some (.ref a), some (.ref b), none, some (.ref rgb_a25)] [] [wa_1_19] 0 0 from ?_)
    have q4 := h6 b q1.1 rgb_a25 c25
    have q5 := h2 rgb_a25 q4.1
    have hca : rgb_a25 ≠ a := by rintro rfl; omega
    have hcb : rgb_a25 ≠ b := by rintro rfl; omega
    refine g_aload (q := 30) B dJ40_rotateRight_28 rfl rfl (rv_r _) ?_
    refine g_aload_n (q := 31) B dJ40_rotateRight_30 rfl rfl (rv_r _) ?_
    refine g_putTNG6 (q := 34) (k := 0) (x := some a) B hwa_1_19 q4.1 dJ40_rotateRight_31 rfl rfl q1742 (Or.inl rfl) (fun wa_12_31 hwa_12_31 => ?_)
    refine (show Go g κ 34 [some (.ref root), some (.ref a), some (.ref b), none, some (.ref rgb_a25)] [] [wa_12_31] 0 0 from ?_)
    refine g_aload_n (q := 35) B dJ40_rotateRight_34 rfl rfl (rv_r _) ?_
    refine g_aload_n (q := 36) B dJ40_rotateRight_35 rfl rfl (rv_r _) ?_
    refine g_getM (v := va_rf (pp a)) (q := 39) B (ci := 25) (k := 0) (j := 6) in_J40 rfl dJ40_rotateRight_36 rfl rfl (TNG.mem hwa_12_31 ha) (Nat.le_of_ble_eq_true rfl) q1742 rfl (congrArg some (congrArg va_rf (fup_n (Ne.symm hca)))) ?_
    refine g_dup_x1 (q := 40) B dJ40_rotateRight_39 rfl (rv_c (rv_o _)) rfl ?_
    refine g_putTNG6 (q := 43) (k := 0) (x := pp a) B hwa_12_31 q1.1 dJ40_rotateRight_40 rfl rfl q1742 (Or.inl rfl) (fun wa_13_40 hwa_13_40 => ?_)
    refine (show Go g κ 43 [some (.ref root), some (.ref a), some (.ref b), none, some (.ref rgb_a25)] [va_rf (pp a)] [wa_13_40] 0 0 from ?_)
    refine g_dup (q := 44) B dJ40_rotateRight_43 rfl (rv_c (rv_o _)) ?_
    refine g_astore_n (q := 45) (lv2 := [some (.ref root), some (.ref a), some (.ref b), some (va_rf (pp a)), some (.ref rgb_a25)]) B dJ40_rotateRight_44 rfl (Nat.le_of_ble_eq_true rfl) (rv_o _) rfl ?_
    refine g_ifnonnull_o (tgt := 58) (q := 48) B dJ40_rotateRight_45 rfl (by decide) (fun ppa_a45 c45 => ?_) (fun c45 => ?_)
    · skip
      rw [c45]
      refine (show Go g κ 58 [some (.ref root), some (.ref a), some (.ref b), some (.ref ppa_a45), some (.ref rgb_a25)] [] [wa_13_40] 0 0 from ?_)
      have q6 := h8 a ha ppa_a45 c45
      have q7 := h2 ppa_a45 q6.1
      have q8 := h4 ppa_a45 q6.1
      have q9 := h6 ppa_a45 q6.1
      have hpa : ppa_a45 ≠ a := by rintro rfl; grind
      have hpb : ppa_a45 ≠ b := by rintro rfl; grind
      have hpc : ppa_a45 ≠ rgb_a25 := by rintro rfl; grind
      refine g_aload_n (q := 59) B dJ40_rotateRight_58 rfl rfl (rv_r _) ?_
      refine g_getM (v := va_rf (rg ppa_a45)) (q := 62) B (ci := 25) (k := 0) (j := 8) in_J40 rfl dJ40_rotateRight_59 rfl rfl (TNG.mem hwa_13_40 q6.1) (Nat.le_of_ble_eq_true rfl) q1744 rfl rfl ?_
      refine g_aload_n (q := 63) B dJ40_rotateRight_62 rfl rfl (rv_r _) ?_
      refine g_acmp_ne (rx := rg ppa_a45) (ry := some a) (tgt := 74) (q := 66) B dJ40_rotateRight_63 rfl (by decide) rfl rfl (Iff.rfl) (fun c63 => ?_) (fun c63 => ?_)
      · skip
        refine g_aload_n (q := 75) B dJ40_rotateRight_74 rfl rfl (rv_r _) ?_
        refine g_aload_n (q := 76) B dJ40_rotateRight_75 rfl rfl (rv_r _) ?_
        refine g_putTNG7 (q := 79) (k := 0) (x := some b) B hwa_13_40 q6.1 dJ40_rotateRight_76 rfl rfl q1743 (Or.inl rfl) (fun wa_14_76 hwa_14_76 => ?_)
        refine (show Go g κ 79 [some (.ref root), some (.ref a), some (.ref b), some (.ref ppa_a45), some (.ref rgb_a25)] [] [wa_14_76] 0 0 from ?_)
        refine g_aload_n (q := 80) B dJ40_rotateRight_79 rfl rfl (rv_r _) ?_
        refine g_aload_n (q := 81) B dJ40_rotateRight_80 rfl rfl (rv_r _) ?_
        refine g_putTNG8 (q := 84) (k := 0) (x := some a) B hwa_14_76 q1.1 dJ40_rotateRight_81 rfl rfl q1744 (Or.inl rfl) (fun wa_15_81 hwa_15_81 => ?_)
        refine (show Go g κ 84 [some (.ref root), some (.ref a), some (.ref b), some (.ref ppa_a45), some (.ref rgb_a25)] [] [wa_15_81] 0 0 from ?_)
        refine g_aload_n (q := 85) B dJ40_rotateRight_84 rfl rfl (rv_r _) ?_
        refine g_aload_n (q := 86) B dJ40_rotateRight_85 rfl rfl (rv_r _) ?_
        refine g_putTNG6 (q := 89) (k := 0) (x := some b) B hwa_15_81 ha dJ40_rotateRight_86 rfl rfl q1742 (Or.inl rfl) (fun wa_16_86 hwa_16_86 => ?_)
        refine (show Go g κ 89 [some (.ref root), some (.ref a), some (.ref b), some (.ref ppa_a45), some (.ref rgb_a25)] [] [wa_16_86] 0 0 from ?_)
        refine g_aload_n (q := 90) B dJ40_rotateRight_89 rfl rfl (rv_r _) ?_
        have hl1 : ∀ d ∈ ns, lf d = some a → pp a = some d := fun d hd e => (h4 d hd a e).2.1
        have hr1 : ∀ d ∈ ns, rg d = some a → pp a = some d := fun d hd e => (h6 d hd a e).2.1
        have hfin : TNG g ns hs ky vl nx (rrP rg pp a b) (rrL lf rg a b) (rrR rg a b) pv rd wa_16_86 := TNG.congr hwa_16_86 (fun d hd => by
          have z1 := hl1 d hd
          have z2 := hr1 d hd
          have z3 := fun e1 => tr_lr (x := a) (b := d) hT hd e1
          clear hT h1 h2 h3 h4 h5 h6 h7 h8 h9 h10 hl1 hr1 E B tb
          try clear q8 q9
          try have q6 := q6.2
          refine ⟨rfl, rfl, rfl, rfl, ?_, ?_, ?_, rfl, rfl⟩ <;> grind [fup, rrL, rrR, rrP])
        have hrt : rlRoot (some root) a b = some root := by
          unfold rlRoot; grind
        exact g_aret B E dJ40_rotateRight_90 (by first | exact Or.inl ⟨_, rfl⟩ | exact Or.inr ⟨_, rfl⟩) (rv_r _) (⟨root, rd, wa_16_86, rfl, rfl, hfin, hrt, by rw [← hrt]; exact tr_rotR hT ha hb, fun d hd => Or.inl rfl⟩)
      · skip
        refine g_aload_n (q := 67) B dJ40_rotateRight_66 rfl rfl (rv_r _) ?_
        refine g_aload_n (q := 68) B dJ40_rotateRight_67 rfl rfl (rv_r _) ?_
        refine g_putTNG8 (q := 71) (k := 0) (x := some b) B hwa_13_40 q6.1 dJ40_rotateRight_68 rfl rfl q1744 (Or.inl rfl) (fun wa_17_68 hwa_17_68 => ?_)
        refine (show Go g κ 71 [some (.ref root), some (.ref a), some (.ref b), some (.ref ppa_a45), some (.ref rgb_a25)] [] [wa_17_68] 0 0 from ?_)
        refine g_goto (tgt := 79) B dJ40_rotateRight_71 (by decide) ?_
        refine g_aload_n (q := 80) B dJ40_rotateRight_79 rfl rfl (rv_r _) ?_
        refine g_aload_n (q := 81) B dJ40_rotateRight_80 rfl rfl (rv_r _) ?_
        refine g_putTNG8 (q := 84) (k := 0) (x := some a) B hwa_17_68 q1.1 dJ40_rotateRight_81 rfl rfl q1744 (Or.inl rfl) (fun wa_18_81 hwa_18_81 => ?_)
        refine (show Go g κ 84 [some (.ref root), some (.ref a), some (.ref b), some (.ref ppa_a45), some (.ref rgb_a25)] [] [wa_18_81] 0 0 from ?_)
        refine g_aload_n (q := 85) B dJ40_rotateRight_84 rfl rfl (rv_r _) ?_
        refine g_aload_n (q := 86) B dJ40_rotateRight_85 rfl rfl (rv_r _) ?_
        refine g_putTNG6 (q := 89) (k := 0) (x := some b) B hwa_18_81 ha dJ40_rotateRight_86 rfl rfl q1742 (Or.inl rfl) (fun wa_19_86 hwa_19_86 => ?_)
        refine (show Go g κ 89 [some (.ref root), some (.ref a), some (.ref b), some (.ref ppa_a45), some (.ref rgb_a25)] [] [wa_19_86] 0 0 from ?_)
        refine g_aload_n (q := 90) B dJ40_rotateRight_89 rfl rfl (rv_r _) ?_
        have hl1 : ∀ d ∈ ns, lf d = some a → pp a = some d := fun d hd e => (h4 d hd a e).2.1
        have hr1 : ∀ d ∈ ns, rg d = some a → pp a = some d := fun d hd e => (h6 d hd a e).2.1
        have hfin : TNG g ns hs ky vl nx (rrP rg pp a b) (rrL lf rg a b) (rrR rg a b) pv rd wa_19_86 := TNG.congr hwa_19_86 (fun d hd => by
          have z1 := hl1 d hd
          have z2 := hr1 d hd
          have z3 := fun e1 => tr_lr (x := a) (b := d) hT hd e1
          clear hT h1 h2 h3 h4 h5 h6 h7 h8 h9 h10 hl1 hr1 E B tb
          try clear q8 q9
          try have q6 := q6.2
          refine ⟨rfl, rfl, rfl, rfl, ?_, ?_, ?_, rfl, rfl⟩ <;> grind [fup, rrL, rrR, rrP])
        have hrt : rlRoot (some root) a b = some root := by
          unfold rlRoot; grind
        exact g_aret B E dJ40_rotateRight_90 (by first | exact Or.inl ⟨_, rfl⟩ | exact Or.inr ⟨_, rfl⟩) (rv_r _) (⟨root, rd, wa_19_86, rfl, rfl, hfin, hrt, by rw [← hrt]; exact tr_rotR hT ha hb, fun d hd => Or.inl rfl⟩)
    · skip
      rw [c45]
      refine (show Go g κ 48 [some (.ref root), some (.ref a), some (.ref b), some (.null), some (.ref rgb_a25)] [] [wa_13_40] 0 0 from ?_)
      refine g_aload_n (q := 49) B dJ40_rotateRight_48 rfl rfl (rv_r _) ?_
      refine g_dup (q := 50) B dJ40_rotateRight_49 rfl rfl ?_
      refine g_astore_n (q := 51) (lv2 := [some (.ref b), some (.ref a), some (.ref b), some (.null), some (.ref rgb_a25)]) B dJ40_rotateRight_50 rfl (Nat.le_of_ble_eq_true rfl) (rv_r _) rfl ?_
      refine g_iconst (v := nI 0) (q := 52) B dJ40_rotateRight_51 rfl (by decide) ?_
      refine g_putTNG10 (q := 55) (k := 0) (x := false) B hwa_13_40 q1.1 dJ40_rotateRight_52 rfl rfl q1747 (Or.inl rfl) (fun wa_20_52 hwa_20_52 => ?_)
      refine (show Go g κ 55 [some (.ref b), some (.ref a), some (.ref b), some (.null), some (.ref rgb_a25)] [] [wa_20_52] 0 0 from ?_)
      refine g_goto (tgt := 79) B dJ40_rotateRight_55 (by decide) ?_
      refine g_aload_n (q := 80) B dJ40_rotateRight_79 rfl rfl (rv_r _) ?_
      refine g_aload_n (q := 81) B dJ40_rotateRight_80 rfl rfl (rv_r _) ?_
      refine g_putTNG8 (q := 84) (k := 0) (x := some a) B hwa_20_52 q1.1 dJ40_rotateRight_81 rfl rfl q1744 (Or.inl rfl) (fun wa_21_81 hwa_21_81 => ?_)
      refine (show Go g κ 84 [some (.ref b), some (.ref a), some (.ref b), some (.null), some (.ref rgb_a25)] [] [wa_21_81] 0 0 from ?_)
      refine g_aload_n (q := 85) B dJ40_rotateRight_84 rfl rfl (rv_r _) ?_
      refine g_aload_n (q := 86) B dJ40_rotateRight_85 rfl rfl (rv_r _) ?_
      refine g_putTNG6 (q := 89) (k := 0) (x := some b) B hwa_21_81 ha dJ40_rotateRight_86 rfl rfl q1742 (Or.inl rfl) (fun wa_22_86 hwa_22_86 => ?_)
      refine (show Go g κ 89 [some (.ref b), some (.ref a), some (.ref b), some (.null), some (.ref rgb_a25)] [] [wa_22_86] 0 0 from ?_)
      refine g_aload_n (q := 90) B dJ40_rotateRight_89 rfl rfl (rv_r _) ?_
      have hl1 : ∀ d ∈ ns, lf d = some a → pp a = some d := fun d hd e => (h4 d hd a e).2.1
      have hr1 : ∀ d ∈ ns, rg d = some a → pp a = some d := fun d hd e => (h6 d hd a e).2.1
      have hfin : TNG g ns hs ky vl nx (rrP rg pp a b) (rrL lf rg a b) (rrR rg a b) pv (fup rd b false) wa_22_86 := TNG.congr hwa_22_86 (fun d hd => by
        have z1 := hl1 d hd
        have z2 := hr1 d hd
        have z3 := fun e1 => tr_lr (x := a) (b := d) hT hd e1
        clear hT h1 h2 h3 h4 h5 h6 h7 h8 h9 h10 hl1 hr1 E B tb
        try clear q8 q9
        try have q6 := q6.2
        refine ⟨rfl, rfl, rfl, rfl, ?_, ?_, ?_, rfl, rfl⟩ <;> grind [fup, rrL, rrR, rrP])
      have hrt : rlRoot (some root) a b = some b := by
        unfold rlRoot; grind
      exact g_aret B E dJ40_rotateRight_90 (by first | exact Or.inl ⟨_, rfl⟩ | exact Or.inr ⟨_, rfl⟩) (rv_r _) (⟨b, (fup rd b false), wa_22_86, rfl, rfl, hfin, hrt, by rw [← hrt]; exact tr_rotR hT ha hb, fun d hd => by simp only [fup]; split <;> simp_all⟩)
def fir (lo hi : Nat → Nat) (p : Nat → Option Nat) (rd : Nat → Bool) (x : Nat) : Nat := fim 4294967296 lo hi p (fun a => !rd a) x
section
variable {ns : List Nat} {key : Nat → Nat} {l r p : Nat → Option Nat} {lo hi : Nat → Nat} {root : Option Nat} {rd : Nat → Bool}
theorem fir_up (h : Tr ns key l r p lo hi root 4294967296) {x b c : Nat} {rd2 : Nat → Bool} (hx : x ∈ ns) (h1 : p x = some b) (h2 : p b = some c) (hc : rd b = true) : fir lo hi p rd2 c < fir lo hi p rd x := fim_up h hx h1 h2 (by simp [hc])
theorem fir_z (x : Nat) {b y : Nat} {lo2 hi2 : Nat → Nat} {p2 : Nat → Option Nat} {rd2 : Nat → Bool} {z : Nat} (h1 : p x = some b) (hc : rd b = true) (h2 : p2 z = some y) (hc2 : rd2 y = false) : fir lo2 hi2 p2 rd2 z < fir lo hi p rd x := fim_z x h1 (by simp [hc]) h2 (by simp [hc2])
end
theorem moJ40_rotateLeft : Mo yJ40_rotateLeft 2 := by
  refine ⟨by decide, by decide, by decide +kernel⟩
theorem moJ40_rotateRight : Mo yJ40_rotateRight 2 := by
  refine ⟨by decide, by decide, by decide +kernel⟩
theorem ct_J40_balanceInsertion (g : Gv) (J : Jd g) {ns : List Nat} {hs : Nat → Int32} {ky : Nat → Nat} {vl : Nat → Nat} {nx : Nat → Option Nat} {pp : Nat → Option Nat} {lf : Nat → Option Nat} {rg : Nat → Option Nat} {pv : Nat → Option Nat} {rd : Nat → Bool} {key : Nat → Nat} {lo : Nat → Nat} {hi : Nat → Nat} {root : Nat} {x : Nat} {w0 : va_W} (hw0 : TNG g ns hs ky vl nx pp lf rg pv rd w0) (hT : Tr ns key lf rg pp lo hi (some root) 4294967296) (hx : x ∈ ns) : Ct g yJ40_balanceInsertion (ws_ yJ40_balanceInsertion cJ40_balanceInsertion 6 (some (.object "java/util/HashMap$TreeNode"))) 1 0 0 [.ref root, .ref x] [w0] (fun (rv_ : Option Value) (rL_ : List va_W) => ∃ (root2 : Nat) (lf2 : Nat → Option Nat) (rg2 : Nat → Option Nat) (pp2 : Nat → Option Nat) (rd2 : Nat → Bool) (lo2 : Nat → Nat) (hi2 : Nat → Nat) (u0 : va_W), rv_ = some (.ref root2) ∧ rL_ = [u0] ∧ TNG g ns hs ky vl nx pp2 lf2 rg2 pv rd2 u0 ∧ (Tr ns key lf2 rg2 pp2 lo2 hi2 (some root2) 4294967296)) noX := by
  refine Ct.of "java/util/HashMap$TreeNode" [some (.ref root), some (.ref x), none, none, none, none] rfl (by decide) rfl (Nat.le_of_ble_eq_true rfl) rfl ?_
  intro κ B E tb
  refine g_aload_n (q := 1) B dJ40_balanceInsertion_0 rfl rfl (rv_r _) ?_
  refine g_iconst (v := nI 1) (q := 2) B dJ40_balanceInsertion_1 rfl (by decide) ?_
  refine g_putTNG10 (q := 5) (k := 0) (x := true) B hw0 hx dJ40_balanceInsertion_2 rfl rfl q1747 (Or.inl rfl) (fun wa_1_2 hwa_1_2 => ?_)
  refine (show Go g κ 5 [some (.ref root), some (.ref x), none, none, none, none] [] [wa_1_2] 0 0 from ?_)
  have lp5 : ∀ (n5 : Nat) (x : Nat) (lf : Nat → Option Nat) (rg : Nat → Option Nat) (pp : Nat → Option Nat) (rd : Nat → Bool) (lo : Nat → Nat) (hi : Nat → Nat) (root : Nat) (l5_0 : va_W), TNG g ns hs ky vl nx pp lf rg pv rd l5_0 → (Tr ns key lf rg pp lo hi (some root) 4294967296) → (x ∈ ns) → fir lo hi pp rd x = n5 → Go g κ 5 [some (.ref root), some (.ref x), none, none, none, none] [] [l5_0] 0 0 := by
    intro n5
    induction n5 using Nat.strongRecOn with
    | _ n5 ih5 =>
    intro x lf rg pp rd lo hi root l5_0 hl5_0 hT hx hmu5
    refine g_aload_n (q := 6) B dJ40_balanceInsertion_5 rfl rfl (rv_r _) ?_
    refine g_getM (v := va_rf (pp x)) (q := 9) B (ci := 25) (k := 0) (j := 6) in_J40 rfl dJ40_balanceInsertion_6 rfl rfl (TNG.mem hl5_0 hx) (Nat.le_of_ble_eq_true rfl) q1742 rfl rfl ?_
    refine g_dup (q := 10) B dJ40_balanceInsertion_9 rfl (rv_c (rv_o _)) ?_
    refine g_astore_n (q := 11) (lv2 := [some (.ref root), some (.ref x), some (va_rf (pp x)), none, none, none]) B dJ40_balanceInsertion_10 rfl (Nat.le_of_ble_eq_true rfl) (rv_o _) rfl ?_
    refine g_ifnonnull_o (tgt := 21) (q := 14) B dJ40_balanceInsertion_11 rfl (by decide) (fun ppx_a11 c11 => ?_) (fun c11 => ?_)
    · skip
      rw [c11]
      refine (show Go g κ 21 [some (.ref root), some (.ref x), some (.ref ppx_a11), none, none, none] [] [l5_0] 0 0 from ?_)
      have hbm := tr_pm hT hx c11
      obtain ⟨hxb, hxc⟩ := tr_3 hT hx c11
      refine g_aload_n (q := 22) B dJ40_balanceInsertion_21 rfl rfl (rv_r _) ?_
      refine g_getM (v := .int (nI (if rd ppx_a11 = true then 1 else 0))) (q := 25) B (ci := 25) (k := 0) (j := 10) in_J40 rfl dJ40_balanceInsertion_22 rfl rfl (TNG.mem hl5_0 hbm) (Nat.le_of_ble_eq_true rfl) q1747 rfl rfl ?_
      refine g_if_eq (tgt := 37) (q := 28) B dJ40_balanceInsertion_25 rfl (by decide) (bo_eqf) (fun c25 => ?_) (fun c25 => ?_)
      · skip
        refine g_aload_n (q := 38) B dJ40_balanceInsertion_37 rfl rfl (rv_r _) ?_
        exact g_aret B E dJ40_balanceInsertion_38 (by first | exact Or.inl ⟨_, rfl⟩ | exact Or.inr ⟨_, rfl⟩) (rv_r _) (⟨root, lf, rg, pp, rd, lo, hi, _, rfl, rfl, hl5_0, hT⟩)
      · skip
        have c25 : rd ppx_a11 = true := by simpa using c25
        refine g_aload_n (q := 29) B dJ40_balanceInsertion_28 rfl rfl (rv_r _) ?_
        refine g_getM (v := va_rf (pp ppx_a11)) (q := 32) B (ci := 25) (k := 0) (j := 6) in_J40 rfl dJ40_balanceInsertion_29 rfl rfl (TNG.mem hl5_0 hbm) (Nat.le_of_ble_eq_true rfl) q1742 rfl rfl ?_
        refine g_dup (q := 33) B dJ40_balanceInsertion_32 rfl (rv_c (rv_o _)) ?_
        refine g_astore_n (q := 34) (lv2 := [some (.ref root), some (.ref x), some (.ref ppx_a11), some (va_rf (pp ppx_a11)), none, none]) B dJ40_balanceInsertion_33 rfl (Nat.le_of_ble_eq_true rfl) (rv_o _) rfl ?_
        refine g_ifnonnull_o (tgt := 39) (q := 37) B dJ40_balanceInsertion_34 rfl (by decide) (fun ppppx__a34 c34 => ?_) (fun c34 => ?_)
        · skip
          rw [c34]
          refine (show Go g κ 39 [some (.ref root), some (.ref x), some (.ref ppx_a11), some (.ref ppppx__a34), none, none] [] [l5_0] 0 0 from ?_)
          have hcm := tr_pm hT hbm c34
          obtain ⟨hxc, hbc⟩ := hxc ppppx__a34 c34
          refine g_aload_n (q := 40) B dJ40_balanceInsertion_39 rfl rfl (rv_r _) ?_
          refine g_aload_n (q := 41) B dJ40_balanceInsertion_40 rfl rfl (rv_r _) ?_
          refine g_getM (v := va_rf (lf ppppx__a34)) (q := 44) B (ci := 25) (k := 0) (j := 7) in_J40 rfl dJ40_balanceInsertion_41 rfl rfl (TNG.mem hl5_0 hcm) (Nat.le_of_ble_eq_true rfl) q1743 rfl rfl ?_
          refine g_dup (q := 45) B dJ40_balanceInsertion_44 rfl (rv_c (rv_o _)) ?_
          refine g_astore (q := 47) (lv2 := [some (.ref root), some (.ref x), some (.ref ppx_a11), some (.ref ppppx__a34), some (va_rf (lf ppppx__a34)), none]) B dJ40_balanceInsertion_45 rfl (Nat.le_of_ble_eq_true rfl) (rv_o _) rfl ?_
          refine g_acmp_ne (rx := some ppx_a11) (ry := lf ppppx__a34) (tgt := 150) (q := 50) B dJ40_balanceInsertion_47 rfl (by decide) rfl rfl (acn) (fun c47 => ?_) (fun c47 => ?_)
          · skip
            have hrc : rg ppppx__a34 = some ppx_a11 := (hT.2.2.2.2.2.2.2.1 ppx_a11 hbm ppppx__a34 c34).2.resolve_left c47
            refine g_aload (q := 152) B dJ40_balanceInsertion_150 rfl rfl (rv_o _) ?_
            refine g_ifnull_o (tgt := 184) (q := 155) B dJ40_balanceInsertion_152 rfl (by decide) (fun c152 => ?_) (fun lfpppp_a152 c152 => ?_)
            · skip
              rw [c152]
              refine (show Go g κ 184 [some (.ref root), some (.ref x), some (.ref ppx_a11), some (.ref ppppx__a34), some (.null), none] [] [l5_0] 0 0 from ?_)
              refine g_aload_n (q := 185) B dJ40_balanceInsertion_184 rfl rfl (rv_r _) ?_
              refine g_aload_n (q := 186) B dJ40_balanceInsertion_185 rfl rfl (rv_r _) ?_
              refine g_getM (v := va_rf (lf ppx_a11)) (q := 189) B (ci := 25) (k := 0) (j := 7) in_J40 rfl dJ40_balanceInsertion_186 rfl rfl (TNG.mem hl5_0 hbm) (Nat.le_of_ble_eq_true rfl) q1743 rfl rfl ?_
              refine g_acmp_ne (rx := some x) (ry := lf ppx_a11) (tgt := 218) (q := 192) B dJ40_balanceInsertion_189 rfl (by decide) rfl rfl (acn) (fun c189 => ?_) (fun c189 => ?_)
              · skip
                refine g_aload_n (q := 219) B dJ40_balanceInsertion_218 rfl rfl (rv_r _) ?_
                refine g_ifnull_r (q := 222) B dJ40_balanceInsertion_219 rfl ?_
                refine g_aload_n (q := 223) B dJ40_balanceInsertion_222 rfl rfl (rv_r _) ?_
                refine g_iconst (v := nI 0) (q := 224) B dJ40_balanceInsertion_223 rfl (by decide) ?_
                refine g_putTNG10 (q := 227) (k := 0) (x := false) B hl5_0 hbm dJ40_balanceInsertion_224 rfl rfl q1747 (Or.inl rfl) (fun wa_2_224 hwa_2_224 => ?_)
                refine (show Go g κ 227 [some (.ref root), some (.ref x), some (.ref ppx_a11), some (.ref ppppx__a34), some (.null), none] [] [wa_2_224] 0 0 from ?_)
                refine g_aload_n (q := 228) B dJ40_balanceInsertion_227 rfl rfl (rv_r _) ?_
                refine g_ifnull_r (q := 231) B dJ40_balanceInsertion_228 rfl ?_
                refine g_aload_n (q := 232) B dJ40_balanceInsertion_231 rfl rfl (rv_r _) ?_
                refine g_iconst (v := nI 1) (q := 233) B dJ40_balanceInsertion_232 rfl (by decide) ?_
                refine g_putTNG10 (q := 236) (k := 0) (x := true) B hwa_2_224 hcm dJ40_balanceInsertion_233 rfl rfl q1747 (Or.inl rfl) (fun wa_3_233 hwa_3_233 => ?_)
                refine (show Go g κ 236 [some (.ref root), some (.ref x), some (.ref ppx_a11), some (.ref ppppx__a34), some (.null), none] [] [wa_3_233] 0 0 from ?_)
                refine g_aload_n (q := 237) B dJ40_balanceInsertion_236 rfl rfl (rv_r _) ?_
                refine g_aload_n (q := 238) B dJ40_balanceInsertion_237 rfl rfl (rv_r _) ?_
                refine g_callS (q := 241) (is := [0]) (kc2 := 0) (ks2 := 0) B [.ref root, .ref ppppx__a34] (ct_J40_rotateLeft g J (ns := ns) (hs := hs) (ky := ky) (vl := vl) (nx := nx) (pp := pp) (lf := lf) (rg := rg) (pv := pv) (rd := (fup (fup rd ppx_a11 false) ppppx__a34 true)) (key := key) (lo := _) (hi := _) (root := root) (a := ppppx__a34) (b := ppx_a11) hwa_3_233 (hT) (hcm) (hrc)) dJ40_balanceInsertion_238 rfl q1711 q1712 q131 q1713 rfl rfl moJ40_rotateLeft rfl rfl (by decide) (by decide) (Nat.le_of_ble_eq_true rfl) (Nat.le_of_ble_eq_true rfl) (Nat.le_of_ble_eq_true rfl) (fun _ _ hx => noX_x hx) (fun v238 L1 hp238 => ?_)
                obtain ⟨root2238, rd2238, u0_238, rfl, rfl, hu0_238, hrt_238, hT2_238, hrd_238⟩ := hp238
                refine (show Go g κ 241 [some (.ref root), some (.ref x), some (.ref ppx_a11), some (.ref ppppx__a34), some (.null), none] [.ref root2238] [u0_238] 0 0 from ?_)
                refine g_astore_n (q := 242) (lv2 := [some (.ref root2238), some (.ref x), some (.ref ppx_a11), some (.ref ppppx__a34), some (.null), none]) B dJ40_balanceInsertion_241 rfl (Nat.le_of_ble_eq_true rfl) (rv_r _) rfl ?_
                have e9 : (rlP lf pp ppppx__a34 ppx_a11) x = some ppx_a11 := by
                  have z1 := tr_lr (x := x) hT hbm
                  have z2 := hT.2.2.2.1 x hx ppx_a11
                  have z3 := hT.2.2.2.2.2.1 x hx ppx_a11
                  have z4 := hT.2.2.2.1 ppx_a11 hbm
                  have z5 := hT.2.2.2.2.2.1 ppx_a11 hbm
                  clear hT
                  try clear hT2_101
                  try clear hT2_196
                  clear hT2_238 E B tb
                  grind [rlP, rrP, rlL, rlR, rrL, rrR]
                have e10 : rd2238 ppx_a11 = false := by
                  have z := hrd_238 ppx_a11 hbm
                  rcases z with z | z
                  · rw [z]; simp [fup, hbc]
                  · exact z.2
                refine g_goto (tgt := 5) B dJ40_balanceInsertion_242 (by decide) ?_
                refine g_fg 2 rfl ?_
                refine g_fg 3 rfl ?_
                refine g_fg 4 rfl ?_
                exact ih5 _ (by rw [← hmu5]; exact fir_z _ c11 c25 e9 e10) x (rlL lf ppppx__a34 ppx_a11) (rlR lf rg ppppx__a34 ppx_a11) (rlP lf pp ppppx__a34 ppx_a11) rd2238 _ _ root2238 u0_238 hu0_238 (hT2_238) (hx) rfl
              · skip
                have hfb : lf ppx_a11 = some x := Classical.not_not.mp c189
                refine g_aload_n (q := 193) B dJ40_balanceInsertion_192 rfl rfl (rv_r _) ?_
                refine g_aload_n (q := 194) B dJ40_balanceInsertion_193 rfl rfl (rv_r _) ?_
                refine g_dup (q := 195) B dJ40_balanceInsertion_194 rfl rfl ?_
                refine g_astore_n (q := 196) (lv2 := [some (.ref root), some (.ref ppx_a11), some (.ref ppx_a11), some (.ref ppppx__a34), some (.null), none]) B dJ40_balanceInsertion_195 rfl (Nat.le_of_ble_eq_true rfl) (rv_r _) rfl ?_
                refine g_callS (q := 199) (is := [0]) (kc2 := 0) (ks2 := 0) B [.ref root, .ref ppx_a11] (ct_J40_rotateRight g J (ns := ns) (hs := hs) (ky := ky) (vl := vl) (nx := nx) (pp := pp) (lf := lf) (rg := rg) (pv := pv) (rd := rd) (key := key) (lo := lo) (hi := hi) (root := root) (a := ppx_a11) (b := x) hl5_0 (hT) (hbm) (hfb)) dJ40_balanceInsertion_196 rfl q1714 q1715 q131 q1716 rfl rfl moJ40_rotateRight rfl rfl (by decide) (by decide) (Nat.le_of_ble_eq_true rfl) (Nat.le_of_ble_eq_true rfl) (Nat.le_of_ble_eq_true rfl) (fun _ _ hx => noX_x hx) (fun v196 L1 hp196 => ?_)
                obtain ⟨root2196, rd2196, u0_196, rfl, rfl, hu0_196, hrt_196, hT2_196, hrd_196⟩ := hp196
                refine (show Go g κ 199 [some (.ref root), some (.ref ppx_a11), some (.ref ppx_a11), some (.ref ppppx__a34), some (.null), none] [.ref root2196] [u0_196] 0 0 from ?_)
                have e1 : (rrP rg pp ppx_a11 x) ppx_a11 = some x := by simp [rrP]
                have e2 : (rrP rg pp ppx_a11 x) x = pp ppx_a11 := by simp [rrP, hxb]
                have e3 : (rrR rg ppx_a11 x) ppppx__a34 = some x := by simp [rrR, Ne.symm hxc, Ne.symm hbc, hrc]
                have hrd1 := hrd_196
                refine g_astore_n (q := 200) (lv2 := [some (.ref root2196), some (.ref ppx_a11), some (.ref ppx_a11), some (.ref ppppx__a34), some (.null), none]) B dJ40_balanceInsertion_199 rfl (Nat.le_of_ble_eq_true rfl) (rv_r _) rfl ?_
                refine g_aload_n (q := 201) B dJ40_balanceInsertion_200 rfl rfl (rv_r _) ?_
                refine g_getM (v := .ref x) (q := 204) B (ci := 25) (k := 0) (j := 6) in_J40 rfl dJ40_balanceInsertion_201 rfl rfl (TNG.mem hu0_196 hbm) (Nat.le_of_ble_eq_true rfl) q1742 rfl (congrArg some (congrArg va_rf e1)) ?_
                refine g_dup (q := 205) B dJ40_balanceInsertion_204 rfl rfl ?_
                refine g_astore_n (q := 206) (lv2 := [some (.ref root2196), some (.ref ppx_a11), some (.ref x), some (.ref ppppx__a34), some (.null), none]) B dJ40_balanceInsertion_205 rfl (Nat.le_of_ble_eq_true rfl) (rv_r _) rfl ?_
                refine g_ifnonnull_r (tgt := 213) B dJ40_balanceInsertion_206 (by decide) ?_
                refine g_aload_n (q := 214) B dJ40_balanceInsertion_213 rfl rfl (rv_r _) ?_
                refine g_getM (v := .ref ppppx__a34) (q := 217) B (ci := 25) (k := 0) (j := 6) in_J40 rfl dJ40_balanceInsertion_214 rfl rfl (TNG.mem hu0_196 hx) (Nat.le_of_ble_eq_true rfl) q1742 rfl (congrArg some (congrArg va_rf (e2.trans c34))) ?_
                refine g_astore_n (q := 218) (lv2 := [some (.ref root2196), some (.ref ppx_a11), some (.ref x), some (.ref ppppx__a34), some (.null), none]) B dJ40_balanceInsertion_217 rfl (Nat.le_of_ble_eq_true rfl) (rv_r _) rfl ?_
                refine g_aload_n (q := 219) B dJ40_balanceInsertion_218 rfl rfl (rv_r _) ?_
                refine g_ifnull_r (q := 222) B dJ40_balanceInsertion_219 rfl ?_
                refine g_aload_n (q := 223) B dJ40_balanceInsertion_222 rfl rfl (rv_r _) ?_
                refine g_iconst (v := nI 0) (q := 224) B dJ40_balanceInsertion_223 rfl (by decide) ?_
                refine g_putTNG10 (q := 227) (k := 0) (x := false) B hu0_196 hx dJ40_balanceInsertion_224 rfl rfl q1747 (Or.inl rfl) (fun wa_4_224 hwa_4_224 => ?_)
                refine (show Go g κ 227 [some (.ref root2196), some (.ref ppx_a11), some (.ref x), some (.ref ppppx__a34), some (.null), none] [] [wa_4_224] 0 0 from ?_)
                refine g_aload_n (q := 228) B dJ40_balanceInsertion_227 rfl rfl (rv_r _) ?_
                refine g_ifnull_r (q := 231) B dJ40_balanceInsertion_228 rfl ?_
                refine g_aload_n (q := 232) B dJ40_balanceInsertion_231 rfl rfl (rv_r _) ?_
                refine g_iconst (v := nI 1) (q := 233) B dJ40_balanceInsertion_232 rfl (by decide) ?_
                refine g_putTNG10 (q := 236) (k := 0) (x := true) B hwa_4_224 hcm dJ40_balanceInsertion_233 rfl rfl q1747 (Or.inl rfl) (fun wa_5_233 hwa_5_233 => ?_)
                refine (show Go g κ 236 [some (.ref root2196), some (.ref ppx_a11), some (.ref x), some (.ref ppppx__a34), some (.null), none] [] [wa_5_233] 0 0 from ?_)
                refine g_aload_n (q := 237) B dJ40_balanceInsertion_236 rfl rfl (rv_r _) ?_
                refine g_aload_n (q := 238) B dJ40_balanceInsertion_237 rfl rfl (rv_r _) ?_
                refine g_callS (q := 241) (is := [0]) (kc2 := 0) (ks2 := 0) B [.ref root2196, .ref ppppx__a34] (ct_J40_rotateLeft g J (ns := ns) (hs := hs) (ky := ky) (vl := vl) (nx := nx) (pp := rrP rg pp ppx_a11 x) (lf := rrL lf rg ppx_a11 x) (rg := rrR rg ppx_a11 x) (pv := pv) (rd := (fup (fup rd2196 x false) ppppx__a34 true)) (key := key) (lo := _) (hi := _) (root := root2196) (a := ppppx__a34) (b := x) hwa_5_233 (hT2_196) (hcm) (e3)) dJ40_balanceInsertion_238 rfl q1711 q1712 q131 q1713 rfl rfl moJ40_rotateLeft rfl rfl (by decide) (by decide) (Nat.le_of_ble_eq_true rfl) (Nat.le_of_ble_eq_true rfl) (Nat.le_of_ble_eq_true rfl) (fun _ _ hx => noX_x hx) (fun v238 L1 hp238 => ?_)
                obtain ⟨root2238, rd2238, u0_238, rfl, rfl, hu0_238, hrt_238, hT2_238, hrd_238⟩ := hp238
                refine (show Go g κ 241 [some (.ref root2196), some (.ref ppx_a11), some (.ref x), some (.ref ppppx__a34), some (.null), none] [.ref root2238] [u0_238] 0 0 from ?_)
                refine g_astore_n (q := 242) (lv2 := [some (.ref root2238), some (.ref ppx_a11), some (.ref x), some (.ref ppppx__a34), some (.null), none]) B dJ40_balanceInsertion_241 rfl (Nat.le_of_ble_eq_true rfl) (rv_r _) rfl ?_
                have e9 : (rlP (rrL lf rg ppx_a11 x) (rrP rg pp ppx_a11 x) ppppx__a34 x) ppx_a11 = some x := by
                  have z1 := tr_lr (x := x) hT hbm
                  have z2 := hT.2.2.2.1 x hx ppx_a11
                  have z3 := hT.2.2.2.2.2.1 x hx ppx_a11
                  have z4 := hT.2.2.2.1 ppx_a11 hbm
                  have z5 := hT.2.2.2.2.2.1 ppx_a11 hbm
                  clear hT
                  try clear hT2_101
                  try clear hT2_196
                  clear hT2_238 E B tb
                  grind [rlP, rrP, rlL, rlR, rrL, rrR]
                have e10 : rd2238 x = false := by
                  have z := hrd_238 x hx
                  rcases z with z | z
                  · rw [z]; simp [fup, hxc]
                  · exact z.2
                refine g_goto (tgt := 5) B dJ40_balanceInsertion_242 (by decide) ?_
                refine g_fg 2 rfl ?_
                refine g_fg 3 rfl ?_
                refine g_fg 4 rfl ?_
                exact ih5 _ (by rw [← hmu5]; exact fir_z _ c11 c25 e9 e10) ppx_a11 (rlL (rrL lf rg ppx_a11 x) ppppx__a34 x) (rlR (rrL lf rg ppx_a11 x) (rrR rg ppx_a11 x) ppppx__a34 x) (rlP (rrL lf rg ppx_a11 x) (rrP rg pp ppx_a11 x) ppppx__a34 x) rd2238 _ _ root2238 u0_238 hu0_238 (hT2_238) (hbm) rfl
            · skip
              rw [c152]
              refine (show Go g κ 155 [some (.ref root), some (.ref x), some (.ref ppx_a11), some (.ref ppppx__a34), some (.ref lfpppp_a152), none] [] [l5_0] 0 0 from ?_)
              have hum := tr_lm hT hcm c152
              refine g_aload (q := 157) B dJ40_balanceInsertion_155 rfl rfl (rv_r _) ?_
              refine g_getM (v := .int (nI (if rd lfpppp_a152 = true then 1 else 0))) (q := 160) B (ci := 25) (k := 0) (j := 10) in_J40 rfl dJ40_balanceInsertion_157 rfl rfl (TNG.mem hl5_0 hum) (Nat.le_of_ble_eq_true rfl) q1747 rfl rfl ?_
              refine g_if_eq (tgt := 184) (q := 163) B dJ40_balanceInsertion_160 rfl (by decide) (bo_eq) (fun c160 => ?_) (fun c160 => ?_)
              · skip
                refine g_aload_n (q := 185) B dJ40_balanceInsertion_184 rfl rfl (rv_r _) ?_
                refine g_aload_n (q := 186) B dJ40_balanceInsertion_185 rfl rfl (rv_r _) ?_
                refine g_getM (v := va_rf (lf ppx_a11)) (q := 189) B (ci := 25) (k := 0) (j := 7) in_J40 rfl dJ40_balanceInsertion_186 rfl rfl (TNG.mem hl5_0 hbm) (Nat.le_of_ble_eq_true rfl) q1743 rfl rfl ?_
                refine g_acmp_ne (rx := some x) (ry := lf ppx_a11) (tgt := 218) (q := 192) B dJ40_balanceInsertion_189 rfl (by decide) rfl rfl (acn) (fun c189 => ?_) (fun c189 => ?_)
                · skip
                  refine g_aload_n (q := 219) B dJ40_balanceInsertion_218 rfl rfl (rv_r _) ?_
                  refine g_ifnull_r (q := 222) B dJ40_balanceInsertion_219 rfl ?_
                  refine g_aload_n (q := 223) B dJ40_balanceInsertion_222 rfl rfl (rv_r _) ?_
                  refine g_iconst (v := nI 0) (q := 224) B dJ40_balanceInsertion_223 rfl (by decide) ?_
                  refine g_putTNG10 (q := 227) (k := 0) (x := false) B hl5_0 hbm dJ40_balanceInsertion_224 rfl rfl q1747 (Or.inl rfl) (fun wa_6_224 hwa_6_224 => ?_)
                  refine (show Go g κ 227 [some (.ref root), some (.ref x), some (.ref ppx_a11), some (.ref ppppx__a34), some (.ref lfpppp_a152), none] [] [wa_6_224] 0 0 from ?_)
                  refine g_aload_n (q := 228) B dJ40_balanceInsertion_227 rfl rfl (rv_r _) ?_
                  refine g_ifnull_r (q := 231) B dJ40_balanceInsertion_228 rfl ?_
                  refine g_aload_n (q := 232) B dJ40_balanceInsertion_231 rfl rfl (rv_r _) ?_
                  refine g_iconst (v := nI 1) (q := 233) B dJ40_balanceInsertion_232 rfl (by decide) ?_
                  refine g_putTNG10 (q := 236) (k := 0) (x := true) B hwa_6_224 hcm dJ40_balanceInsertion_233 rfl rfl q1747 (Or.inl rfl) (fun wa_7_233 hwa_7_233 => ?_)
                  refine (show Go g κ 236 [some (.ref root), some (.ref x), some (.ref ppx_a11), some (.ref ppppx__a34), some (.ref lfpppp_a152), none] [] [wa_7_233] 0 0 from ?_)
                  refine g_aload_n (q := 237) B dJ40_balanceInsertion_236 rfl rfl (rv_r _) ?_
                  refine g_aload_n (q := 238) B dJ40_balanceInsertion_237 rfl rfl (rv_r _) ?_
                  refine g_callS (q := 241) (is := [0]) (kc2 := 0) (ks2 := 0) B [.ref root, .ref ppppx__a34] (ct_J40_rotateLeft g J (ns := ns) (hs := hs) (ky := ky) (vl := vl) (nx := nx) (pp := pp) (lf := lf) (rg := rg) (pv := pv) (rd := (fup (fup rd ppx_a11 false) ppppx__a34 true)) (key := key) (lo := _) (hi := _) (root := root) (a := ppppx__a34) (b := ppx_a11) hwa_7_233 (hT) (hcm) (hrc)) dJ40_balanceInsertion_238 rfl q1711 q1712 q131 q1713 rfl rfl moJ40_rotateLeft rfl rfl (by decide) (by decide) (Nat.le_of_ble_eq_true rfl) (Nat.le_of_ble_eq_true rfl) (Nat.le_of_ble_eq_true rfl) (fun _ _ hx => noX_x hx) (fun v238 L1 hp238 => ?_)
                  obtain ⟨root2238, rd2238, u0_238, rfl, rfl, hu0_238, hrt_238, hT2_238, hrd_238⟩ := hp238
                  refine (show Go g κ 241 [some (.ref root), some (.ref x), some (.ref ppx_a11), some (.ref ppppx__a34), some (.ref lfpppp_a152), none] [.ref root2238] [u0_238] 0 0 from ?_)
                  refine g_astore_n (q := 242) (lv2 := [some (.ref root2238), some (.ref x), some (.ref ppx_a11), some (.ref ppppx__a34), some (.ref lfpppp_a152), none]) B dJ40_balanceInsertion_241 rfl (Nat.le_of_ble_eq_true rfl) (rv_r _) rfl ?_
                  have e9 : (rlP lf pp ppppx__a34 ppx_a11) x = some ppx_a11 := by
                    have z1 := tr_lr (x := x) hT hbm
                    have z2 := hT.2.2.2.1 x hx ppx_a11
                    have z3 := hT.2.2.2.2.2.1 x hx ppx_a11
                    have z4 := hT.2.2.2.1 ppx_a11 hbm
                    have z5 := hT.2.2.2.2.2.1 ppx_a11 hbm
                    clear hT
                    try clear hT2_101
                    try clear hT2_196
                    clear hT2_238 E B tb
                    grind [rlP, rrP, rlL, rlR, rrL, rrR]
                  have e10 : rd2238 ppx_a11 = false := by
                    have z := hrd_238 ppx_a11 hbm
                    rcases z with z | z
                    · rw [z]; simp [fup, hbc]
                    · exact z.2
                  refine g_goto (tgt := 5) B dJ40_balanceInsertion_242 (by decide) ?_
                  refine g_fg 2 rfl ?_
                  refine g_fg 3 rfl ?_
                  refine g_fg 4 rfl ?_
                  exact ih5 _ (by rw [← hmu5]; exact fir_z _ c11 c25 e9 e10) x (rlL lf ppppx__a34 ppx_a11) (rlR lf rg ppppx__a34 ppx_a11) (rlP lf pp ppppx__a34 ppx_a11) rd2238 _ _ root2238 u0_238 hu0_238 (hT2_238) (hx) rfl
                · skip
                  have hfb : lf ppx_a11 = some x := Classical.not_not.mp c189
                  refine g_aload_n (q := 193) B dJ40_balanceInsertion_192 rfl rfl (rv_r _) ?_
                  refine g_aload_n (q := 194) B dJ40_balanceInsertion_193 rfl rfl (rv_r _) ?_
                  refine g_dup (q := 195) B dJ40_balanceInsertion_194 rfl rfl ?_
                  refine g_astore_n (q := 196) (lv2 := [some (.ref root), some (.ref ppx_a11), some (.ref ppx_a11), some (.ref ppppx__a34), some (.ref lfpppp_a152), none]) B dJ40_balanceInsertion_195 rfl (Nat.le_of_ble_eq_true rfl) (rv_r _) rfl ?_
                  refine g_callS (q := 199) (is := [0]) (kc2 := 0) (ks2 := 0) B [.ref root, .ref ppx_a11] (ct_J40_rotateRight g J (ns := ns) (hs := hs) (ky := ky) (vl := vl) (nx := nx) (pp := pp) (lf := lf) (rg := rg) (pv := pv) (rd := rd) (key := key) (lo := lo) (hi := hi) (root := root) (a := ppx_a11) (b := x) hl5_0 (hT) (hbm) (hfb)) dJ40_balanceInsertion_196 rfl q1714 q1715 q131 q1716 rfl rfl moJ40_rotateRight rfl rfl (by decide) (by decide) (Nat.le_of_ble_eq_true rfl) (Nat.le_of_ble_eq_true rfl) (Nat.le_of_ble_eq_true rfl) (fun _ _ hx => noX_x hx) (fun v196 L1 hp196 => ?_)
                  obtain ⟨root2196, rd2196, u0_196, rfl, rfl, hu0_196, hrt_196, hT2_196, hrd_196⟩ := hp196
                  refine (show Go g κ 199 [some (.ref root), some (.ref ppx_a11), some (.ref ppx_a11), some (.ref ppppx__a34), some (.ref lfpppp_a152), none] [.ref root2196] [u0_196] 0 0 from ?_)
                  have e1 : (rrP rg pp ppx_a11 x) ppx_a11 = some x := by simp [rrP]
                  have e2 : (rrP rg pp ppx_a11 x) x = pp ppx_a11 := by simp [rrP, hxb]
                  have e3 : (rrR rg ppx_a11 x) ppppx__a34 = some x := by simp [rrR, Ne.symm hxc, Ne.symm hbc, hrc]
                  have hrd1 := hrd_196
                  refine g_astore_n (q := 200) (lv2 := [some (.ref root2196), some (.ref ppx_a11), some (.ref ppx_a11), some (.ref ppppx__a34), some (.ref lfpppp_a152), none]) B dJ40_balanceInsertion_199 rfl (Nat.le_of_ble_eq_true rfl) (rv_r _) rfl ?_
                  refine g_aload_n (q := 201) B dJ40_balanceInsertion_200 rfl rfl (rv_r _) ?_
                  refine g_getM (v := .ref x) (q := 204) B (ci := 25) (k := 0) (j := 6) in_J40 rfl dJ40_balanceInsertion_201 rfl rfl (TNG.mem hu0_196 hbm) (Nat.le_of_ble_eq_true rfl) q1742 rfl (congrArg some (congrArg va_rf e1)) ?_
                  refine g_dup (q := 205) B dJ40_balanceInsertion_204 rfl rfl ?_
                  refine g_astore_n (q := 206) (lv2 := [some (.ref root2196), some (.ref ppx_a11), some (.ref x), some (.ref ppppx__a34), some (.ref lfpppp_a152), none]) B dJ40_balanceInsertion_205 rfl (Nat.le_of_ble_eq_true rfl) (rv_r _) rfl ?_
                  refine g_ifnonnull_r (tgt := 213) B dJ40_balanceInsertion_206 (by decide) ?_
                  refine g_aload_n (q := 214) B dJ40_balanceInsertion_213 rfl rfl (rv_r _) ?_
                  refine g_getM (v := .ref ppppx__a34) (q := 217) B (ci := 25) (k := 0) (j := 6) in_J40 rfl dJ40_balanceInsertion_214 rfl rfl (TNG.mem hu0_196 hx) (Nat.le_of_ble_eq_true rfl) q1742 rfl (congrArg some (congrArg va_rf (e2.trans c34))) ?_
                  refine g_astore_n (q := 218) (lv2 := [some (.ref root2196), some (.ref ppx_a11), some (.ref x), some (.ref ppppx__a34), some (.ref lfpppp_a152), none]) B dJ40_balanceInsertion_217 rfl (Nat.le_of_ble_eq_true rfl) (rv_r _) rfl ?_
                  refine g_aload_n (q := 219) B dJ40_balanceInsertion_218 rfl rfl (rv_r _) ?_
                  refine g_ifnull_r (q := 222) B dJ40_balanceInsertion_219 rfl ?_
                  refine g_aload_n (q := 223) B dJ40_balanceInsertion_222 rfl rfl (rv_r _) ?_
                  refine g_iconst (v := nI 0) (q := 224) B dJ40_balanceInsertion_223 rfl (by decide) ?_
                  refine g_putTNG10 (q := 227) (k := 0) (x := false) B hu0_196 hx dJ40_balanceInsertion_224 rfl rfl q1747 (Or.inl rfl) (fun wa_8_224 hwa_8_224 => ?_)
                  refine (show Go g κ 227 [some (.ref root2196), some (.ref ppx_a11), some (.ref x), some (.ref ppppx__a34), some (.ref lfpppp_a152), none] [] [wa_8_224] 0 0 from ?_)
                  refine g_aload_n (q := 228) B dJ40_balanceInsertion_227 rfl rfl (rv_r _) ?_
                  refine g_ifnull_r (q := 231) B dJ40_balanceInsertion_228 rfl ?_
                  refine g_aload_n (q := 232) B dJ40_balanceInsertion_231 rfl rfl (rv_r _) ?_
                  refine g_iconst (v := nI 1) (q := 233) B dJ40_balanceInsertion_232 rfl (by decide) ?_
                  refine g_putTNG10 (q := 236) (k := 0) (x := true) B hwa_8_224 hcm dJ40_balanceInsertion_233 rfl rfl q1747 (Or.inl rfl) (fun wa_9_233 hwa_9_233 => ?_)
                  refine (show Go g κ 236 [some (.ref root2196), some (.ref ppx_a11), some (.ref x), some (.ref ppppx__a34), some (.ref lfpppp_a152), none] [] [wa_9_233] 0 0 from ?_)
                  refine g_aload_n (q := 237) B dJ40_balanceInsertion_236 rfl rfl (rv_r _) ?_
                  refine g_aload_n (q := 238) B dJ40_balanceInsertion_237 rfl rfl (rv_r _) ?_
                  refine g_callS (q := 241) (is := [0]) (kc2 := 0) (ks2 := 0) B [.ref root2196, .ref ppppx__a34] (ct_J40_rotateLeft g J (ns := ns) (hs := hs) (ky := ky) (vl := vl) (nx := nx) (pp := rrP rg pp ppx_a11 x) (lf := rrL lf rg ppx_a11 x) (rg := rrR rg ppx_a11 x) (pv := pv) (rd := (fup (fup rd2196 x false) ppppx__a34 true)) (key := key) (lo := _) (hi := _) (root := root2196) (a := ppppx__a34) (b := x) hwa_9_233 (hT2_196) (hcm) (e3)) dJ40_balanceInsertion_238 rfl q1711 q1712 q131 q1713 rfl rfl moJ40_rotateLeft rfl rfl (by decide) (by decide) (Nat.le_of_ble_eq_true rfl) (Nat.le_of_ble_eq_true rfl) (Nat.le_of_ble_eq_true rfl) (fun _ _ hx => noX_x hx) (fun v238 L1 hp238 => ?_)
                  obtain ⟨root2238, rd2238, u0_238, rfl, rfl, hu0_238, hrt_238, hT2_238, hrd_238⟩ := hp238
                  refine (show Go g κ 241 [some (.ref root2196), some (.ref ppx_a11), some (.ref x), some (.ref ppppx__a34), some (.ref lfpppp_a152), none] [.ref root2238] [u0_238] 0 0 from ?_)
                  refine g_astore_n (q := 242) (lv2 := [some (.ref root2238), some (.ref ppx_a11), some (.ref x), some (.ref ppppx__a34), some (.ref lfpppp_a152), none]) B dJ40_balanceInsertion_241 rfl (Nat.le_of_ble_eq_true rfl) (rv_r _) rfl ?_
                  have e9 : (rlP (rrL lf rg ppx_a11 x) (rrP rg pp ppx_a11 x) ppppx__a34 x) ppx_a11 = some x := by
                    have z1 := tr_lr (x := x) hT hbm
                    have z2 := hT.2.2.2.1 x hx ppx_a11
                    have z3 := hT.2.2.2.2.2.1 x hx ppx_a11
                    have z4 := hT.2.2.2.1 ppx_a11 hbm
                    have z5 := hT.2.2.2.2.2.1 ppx_a11 hbm
                    clear hT
                    try clear hT2_101
                    try clear hT2_196
                    clear hT2_238 E B tb
                    grind [rlP, rrP, rlL, rlR, rrL, rrR]
                  have e10 : rd2238 x = false := by
                    have z := hrd_238 x hx
                    rcases z with z | z
                    · rw [z]; simp [fup, hxc]
                    · exact z.2
                  refine g_goto (tgt := 5) B dJ40_balanceInsertion_242 (by decide) ?_
                  refine g_fg 2 rfl ?_
                  refine g_fg 3 rfl ?_
                  refine g_fg 4 rfl ?_
                  exact ih5 _ (by rw [← hmu5]; exact fir_z _ c11 c25 e9 e10) ppx_a11 (rlL (rrL lf rg ppx_a11 x) ppppx__a34 x) (rlR (rrL lf rg ppx_a11 x) (rrR rg ppx_a11 x) ppppx__a34 x) (rlP (rrL lf rg ppx_a11 x) (rrP rg pp ppx_a11 x) ppppx__a34 x) rd2238 _ _ root2238 u0_238 hu0_238 (hT2_238) (hbm) rfl
              · skip
                refine g_aload (q := 165) B dJ40_balanceInsertion_163 rfl rfl (rv_r _) ?_
                refine g_iconst (v := nI 0) (q := 166) B dJ40_balanceInsertion_165 rfl (by decide) ?_
                refine g_putTNG10 (q := 169) (k := 0) (x := false) B hl5_0 hum dJ40_balanceInsertion_166 rfl rfl q1747 (Or.inl rfl) (fun wa_10_166 hwa_10_166 => ?_)
                refine (show Go g κ 169 [some (.ref root), some (.ref x), some (.ref ppx_a11), some (.ref ppppx__a34), some (.ref lfpppp_a152), none] [] [wa_10_166] 0 0 from ?_)
                refine g_aload_n (q := 170) B dJ40_balanceInsertion_169 rfl rfl (rv_r _) ?_
                refine g_iconst (v := nI 0) (q := 171) B dJ40_balanceInsertion_170 rfl (by decide) ?_
                refine g_putTNG10 (q := 174) (k := 0) (x := false) B hwa_10_166 hbm dJ40_balanceInsertion_171 rfl rfl q1747 (Or.inl rfl) (fun wa_11_171 hwa_11_171 => ?_)
                refine (show Go g κ 174 [some (.ref root), some (.ref x), some (.ref ppx_a11), some (.ref ppppx__a34), some (.ref lfpppp_a152), none] [] [wa_11_171] 0 0 from ?_)
                refine g_aload_n (q := 175) B dJ40_balanceInsertion_174 rfl rfl (rv_r _) ?_
                refine g_iconst (v := nI 1) (q := 176) B dJ40_balanceInsertion_175 rfl (by decide) ?_
                refine g_putTNG10 (q := 179) (k := 0) (x := true) B hwa_11_171 hcm dJ40_balanceInsertion_176 rfl rfl q1747 (Or.inl rfl) (fun wa_12_176 hwa_12_176 => ?_)
                refine (show Go g κ 179 [some (.ref root), some (.ref x), some (.ref ppx_a11), some (.ref ppppx__a34), some (.ref lfpppp_a152), none] [] [wa_12_176] 0 0 from ?_)
                refine g_aload_n (q := 180) B dJ40_balanceInsertion_179 rfl rfl (rv_r _) ?_
                refine g_astore_n (q := 181) (lv2 := [some (.ref root), some (.ref ppppx__a34), some (.ref ppx_a11), some (.ref ppppx__a34), some (.ref lfpppp_a152), none]) B dJ40_balanceInsertion_180 rfl (Nat.le_of_ble_eq_true rfl) (rv_r _) rfl ?_
                refine g_goto (tgt := 5) B dJ40_balanceInsertion_181 (by decide) ?_
                refine g_fg 2 rfl ?_
                refine g_fg 3 rfl ?_
                refine g_fg 4 rfl ?_
                exact ih5 _ (by rw [← hmu5]; exact fir_up hT hx c11 c34 c25) ppppx__a34 lf rg pp (fup (fup (fup rd lfpppp_a152 false) ppx_a11 false) ppppx__a34 true) lo hi root wa_12_176 hwa_12_176 (hT) (hcm) rfl
          · skip
            have hlc : lf ppppx__a34 = some ppx_a11 := Classical.not_not.mp c47
            rw [hlc]
            refine (show Go g κ 50 [some (.ref root), some (.ref x), some (.ref ppx_a11), some (.ref ppppx__a34), some (.ref ppx_a11), none] [] [l5_0] 0 0 from ?_)
            refine g_aload_n (q := 51) B dJ40_balanceInsertion_50 rfl rfl (rv_r _) ?_
            refine g_getM (v := va_rf (rg ppppx__a34)) (q := 54) B (ci := 25) (k := 0) (j := 8) in_J40 rfl dJ40_balanceInsertion_51 rfl rfl (TNG.mem hl5_0 hcm) (Nat.le_of_ble_eq_true rfl) q1744 rfl rfl ?_
            refine g_dup (q := 55) B dJ40_balanceInsertion_54 rfl (rv_c (rv_o _)) ?_
            refine g_astore (q := 57) (lv2 := [some (.ref root), some (.ref x), some (.ref ppx_a11), some (.ref ppppx__a34), some (.ref ppx_a11), some (va_rf (rg ppppx__a34))]) B dJ40_balanceInsertion_55 rfl (Nat.le_of_ble_eq_true rfl) (rv_o _) rfl ?_
            refine g_ifnull_o (tgt := 89) (q := 60) B dJ40_balanceInsertion_57 rfl (by decide) (fun c57 => ?_) (fun rgpppp_a57 c57 => ?_)
            · skip
              rw [c57]
              refine (show Go g κ 89 [some (.ref root), some (.ref x), some (.ref ppx_a11), some (.ref ppppx__a34), some (.ref ppx_a11), some (.null)] [] [l5_0] 0 0 from ?_)
              refine g_aload_n (q := 90) B dJ40_balanceInsertion_89 rfl rfl (rv_r _) ?_
              refine g_aload_n (q := 91) B dJ40_balanceInsertion_90 rfl rfl (rv_r _) ?_
              refine g_getM (v := va_rf (rg ppx_a11)) (q := 94) B (ci := 25) (k := 0) (j := 8) in_J40 rfl dJ40_balanceInsertion_91 rfl rfl (TNG.mem hl5_0 hbm) (Nat.le_of_ble_eq_true rfl) q1744 rfl rfl ?_
              refine g_acmp_ne (rx := some x) (ry := rg ppx_a11) (tgt := 123) (q := 97) B dJ40_balanceInsertion_94 rfl (by decide) rfl rfl (acn) (fun c94 => ?_) (fun c94 => ?_)
              · skip
                refine g_aload_n (q := 124) B dJ40_balanceInsertion_123 rfl rfl (rv_r _) ?_
                refine g_ifnull_r (q := 127) B dJ40_balanceInsertion_124 rfl ?_
                refine g_aload_n (q := 128) B dJ40_balanceInsertion_127 rfl rfl (rv_r _) ?_
                refine g_iconst (v := nI 0) (q := 129) B dJ40_balanceInsertion_128 rfl (by decide) ?_
                refine g_putTNG10 (q := 132) (k := 0) (x := false) B hl5_0 hbm dJ40_balanceInsertion_129 rfl rfl q1747 (Or.inl rfl) (fun wa_13_129 hwa_13_129 => ?_)
                refine (show Go g κ 132 [some (.ref root), some (.ref x), some (.ref ppx_a11), some (.ref ppppx__a34), some (.ref ppx_a11), some (.null)] [] [wa_13_129] 0 0 from ?_)
                refine g_aload_n (q := 133) B dJ40_balanceInsertion_132 rfl rfl (rv_r _) ?_
                refine g_ifnull_r (q := 136) B dJ40_balanceInsertion_133 rfl ?_
                refine g_aload_n (q := 137) B dJ40_balanceInsertion_136 rfl rfl (rv_r _) ?_
                refine g_iconst (v := nI 1) (q := 138) B dJ40_balanceInsertion_137 rfl (by decide) ?_
                refine g_putTNG10 (q := 141) (k := 0) (x := true) B hwa_13_129 hcm dJ40_balanceInsertion_138 rfl rfl q1747 (Or.inl rfl) (fun wa_14_138 hwa_14_138 => ?_)
                refine (show Go g κ 141 [some (.ref root), some (.ref x), some (.ref ppx_a11), some (.ref ppppx__a34), some (.ref ppx_a11), some (.null)] [] [wa_14_138] 0 0 from ?_)
                refine g_aload_n (q := 142) B dJ40_balanceInsertion_141 rfl rfl (rv_r _) ?_
                refine g_aload_n (q := 143) B dJ40_balanceInsertion_142 rfl rfl (rv_r _) ?_
                refine g_callS (q := 146) (is := [0]) (kc2 := 0) (ks2 := 0) B [.ref root, .ref ppppx__a34] (ct_J40_rotateRight g J (ns := ns) (hs := hs) (ky := ky) (vl := vl) (nx := nx) (pp := pp) (lf := lf) (rg := rg) (pv := pv) (rd := (fup (fup rd ppx_a11 false) ppppx__a34 true)) (key := key) (lo := _) (hi := _) (root := root) (a := ppppx__a34) (b := ppx_a11) hwa_14_138 (hT) (hcm) (hlc)) dJ40_balanceInsertion_143 rfl q1714 q1715 q131 q1716 rfl rfl moJ40_rotateRight rfl rfl (by decide) (by decide) (Nat.le_of_ble_eq_true rfl) (Nat.le_of_ble_eq_true rfl) (Nat.le_of_ble_eq_true rfl) (fun _ _ hx => noX_x hx) (fun v143 L1 hp143 => ?_)
                obtain ⟨root2143, rd2143, u0_143, rfl, rfl, hu0_143, hrt_143, hT2_143, hrd_143⟩ := hp143
                refine (show Go g κ 146 [some (.ref root), some (.ref x), some (.ref ppx_a11), some (.ref ppppx__a34), some (.ref ppx_a11), some (.null)] [.ref root2143] [u0_143] 0 0 from ?_)
                refine g_astore_n (q := 147) (lv2 := [some (.ref root2143), some (.ref x), some (.ref ppx_a11), some (.ref ppppx__a34), some (.ref ppx_a11), some (.null)]) B dJ40_balanceInsertion_146 rfl (Nat.le_of_ble_eq_true rfl) (rv_r _) rfl ?_
                have e9 : (rrP rg pp ppppx__a34 ppx_a11) x = some ppx_a11 := by
                  have z1 := tr_lr (x := x) hT hbm
                  have z2 := hT.2.2.2.1 x hx ppx_a11
                  have z3 := hT.2.2.2.2.2.1 x hx ppx_a11
                  have z4 := hT.2.2.2.1 ppx_a11 hbm
                  have z5 := hT.2.2.2.2.2.1 ppx_a11 hbm
                  clear hT
                  try clear hT2_101
                  try clear hT2_196
                  clear hT2_143 E B tb
                  grind [rlP, rrP, rlL, rlR, rrL, rrR]
                have e10 : rd2143 ppx_a11 = false := by
                  have z := hrd_143 ppx_a11 hbm
                  rcases z with z | z
                  · rw [z]; simp [fup, hbc]
                  · exact z.2
                refine g_goto (tgt := 5) B dJ40_balanceInsertion_147 (by decide) ?_
                refine g_fg 2 rfl ?_
                refine g_fg 3 rfl ?_
                refine g_fg 4 rfl ?_
                refine g_fg 5 rfl ?_
                exact ih5 _ (by rw [← hmu5]; exact fir_z _ c11 c25 e9 e10) x (rrL lf rg ppppx__a34 ppx_a11) (rrR rg ppppx__a34 ppx_a11) (rrP rg pp ppppx__a34 ppx_a11) rd2143 _ _ root2143 u0_143 hu0_143 (hT2_143) (hx) rfl
              · skip
                have hfb : rg ppx_a11 = some x := Classical.not_not.mp c94
                refine g_aload_n (q := 98) B dJ40_balanceInsertion_97 rfl rfl (rv_r _) ?_
                refine g_aload_n (q := 99) B dJ40_balanceInsertion_98 rfl rfl (rv_r _) ?_
                refine g_dup (q := 100) B dJ40_balanceInsertion_99 rfl rfl ?_
                refine g_astore_n (q := 101) (lv2 := [some (.ref root), some (.ref ppx_a11), some (.ref ppx_a11), some (.ref ppppx__a34), some (.ref ppx_a11), some (.null)]) B dJ40_balanceInsertion_100 rfl (Nat.le_of_ble_eq_true rfl) (rv_r _) rfl ?_
                refine g_callS (q := 104) (is := [0]) (kc2 := 0) (ks2 := 0) B [.ref root, .ref ppx_a11] (ct_J40_rotateLeft g J (ns := ns) (hs := hs) (ky := ky) (vl := vl) (nx := nx) (pp := pp) (lf := lf) (rg := rg) (pv := pv) (rd := rd) (key := key) (lo := lo) (hi := hi) (root := root) (a := ppx_a11) (b := x) hl5_0 (hT) (hbm) (hfb)) dJ40_balanceInsertion_101 rfl q1711 q1712 q131 q1713 rfl rfl moJ40_rotateLeft rfl rfl (by decide) (by decide) (Nat.le_of_ble_eq_true rfl) (Nat.le_of_ble_eq_true rfl) (Nat.le_of_ble_eq_true rfl) (fun _ _ hx => noX_x hx) (fun v101 L1 hp101 => ?_)
                obtain ⟨root2101, rd2101, u0_101, rfl, rfl, hu0_101, hrt_101, hT2_101, hrd_101⟩ := hp101
                refine (show Go g κ 104 [some (.ref root), some (.ref ppx_a11), some (.ref ppx_a11), some (.ref ppppx__a34), some (.ref ppx_a11), some (.null)] [.ref root2101] [u0_101] 0 0 from ?_)
                have e1 : (rlP lf pp ppx_a11 x) ppx_a11 = some x := by simp [rlP]
                have e2 : (rlP lf pp ppx_a11 x) x = pp ppx_a11 := by simp [rlP, hxb]
                have e3 : (rlL lf ppx_a11 x) ppppx__a34 = some x := by simp [rlL, Ne.symm hxc, Ne.symm hbc, hlc]
                have hrd1 := hrd_101
                refine g_astore_n (q := 105) (lv2 := [some (.ref root2101), some (.ref ppx_a11), some (.ref ppx_a11), some (.ref ppppx__a34), some (.ref ppx_a11), some (.null)]) B dJ40_balanceInsertion_104 rfl (Nat.le_of_ble_eq_true rfl) (rv_r _) rfl ?_
                refine g_aload_n (q := 106) B dJ40_balanceInsertion_105 rfl rfl (rv_r _) ?_
                refine g_getM (v := .ref x) (q := 109) B (ci := 25) (k := 0) (j := 6) in_J40 rfl dJ40_balanceInsertion_106 rfl rfl (TNG.mem hu0_101 hbm) (Nat.le_of_ble_eq_true rfl) q1742 rfl (congrArg some (congrArg va_rf e1)) ?_
                refine g_dup (q := 110) B dJ40_balanceInsertion_109 rfl rfl ?_
                refine g_astore_n (q := 111) (lv2 := [some (.ref root2101), some (.ref ppx_a11), some (.ref x), some (.ref ppppx__a34), some (.ref ppx_a11), some (.null)]) B dJ40_balanceInsertion_110 rfl (Nat.le_of_ble_eq_true rfl) (rv_r _) rfl ?_
                refine g_ifnonnull_r (tgt := 118) B dJ40_balanceInsertion_111 (by decide) ?_
                refine g_aload_n (q := 119) B dJ40_balanceInsertion_118 rfl rfl (rv_r _) ?_
                refine g_getM (v := .ref ppppx__a34) (q := 122) B (ci := 25) (k := 0) (j := 6) in_J40 rfl dJ40_balanceInsertion_119 rfl rfl (TNG.mem hu0_101 hx) (Nat.le_of_ble_eq_true rfl) q1742 rfl (congrArg some (congrArg va_rf (e2.trans c34))) ?_
                refine g_astore_n (q := 123) (lv2 := [some (.ref root2101), some (.ref ppx_a11), some (.ref x), some (.ref ppppx__a34), some (.ref ppx_a11), some (.null)]) B dJ40_balanceInsertion_122 rfl (Nat.le_of_ble_eq_true rfl) (rv_r _) rfl ?_
                refine g_aload_n (q := 124) B dJ40_balanceInsertion_123 rfl rfl (rv_r _) ?_
                refine g_ifnull_r (q := 127) B dJ40_balanceInsertion_124 rfl ?_
                refine g_aload_n (q := 128) B dJ40_balanceInsertion_127 rfl rfl (rv_r _) ?_
                refine g_iconst (v := nI 0) (q := 129) B dJ40_balanceInsertion_128 rfl (by decide) ?_
                refine g_putTNG10 (q := 132) (k := 0) (x := false) B hu0_101 hx dJ40_balanceInsertion_129 rfl rfl q1747 (Or.inl rfl) (fun wa_15_129 hwa_15_129 => ?_)
                refine (show Go g κ 132 [some (.ref root2101), some (.ref ppx_a11), some (.ref x), some (.ref ppppx__a34), some (.ref ppx_a11), some (.null)] [] [wa_15_129] 0 0 from ?_)
                refine g_aload_n (q := 133) B dJ40_balanceInsertion_132 rfl rfl (rv_r _) ?_
                refine g_ifnull_r (q := 136) B dJ40_balanceInsertion_133 rfl ?_
                refine g_aload_n (q := 137) B dJ40_balanceInsertion_136 rfl rfl (rv_r _) ?_
                refine g_iconst (v := nI 1) (q := 138) B dJ40_balanceInsertion_137 rfl (by decide) ?_
                refine g_putTNG10 (q := 141) (k := 0) (x := true) B hwa_15_129 hcm dJ40_balanceInsertion_138 rfl rfl q1747 (Or.inl rfl) (fun wa_16_138 hwa_16_138 => ?_)
                refine (show Go g κ 141 [some (.ref root2101), some (.ref ppx_a11), some (.ref x), some (.ref ppppx__a34), some (.ref ppx_a11), some (.null)] [] [wa_16_138] 0 0 from ?_)
                refine g_aload_n (q := 142) B dJ40_balanceInsertion_141 rfl rfl (rv_r _) ?_
                refine g_aload_n (q := 143) B dJ40_balanceInsertion_142 rfl rfl (rv_r _) ?_
                refine g_callS (q := 146) (is := [0]) (kc2 := 0) (ks2 := 0) B [.ref root2101, .ref ppppx__a34] (ct_J40_rotateRight g J (ns := ns) (hs := hs) (ky := ky) (vl := vl) (nx := nx) (pp := rlP lf pp ppx_a11 x) (lf := rlL lf ppx_a11 x) (rg := rlR lf rg ppx_a11 x) (pv := pv) (rd := (fup (fup rd2101 x false) ppppx__a34 true)) (key := key) (lo := _) (hi := _) (root := root2101) (a := ppppx__a34) (b := x) hwa_16_138 (hT2_101) (hcm) (e3)) dJ40_balanceInsertion_143 rfl q1714 q1715 q131 q1716 rfl rfl moJ40_rotateRight rfl rfl (by decide) (by decide) (Nat.le_of_ble_eq_true rfl) (Nat.le_of_ble_eq_true rfl) (Nat.le_of_ble_eq_true rfl) (fun _ _ hx => noX_x hx) (fun v143 L1 hp143 => ?_)
                obtain ⟨root2143, rd2143, u0_143, rfl, rfl, hu0_143, hrt_143, hT2_143, hrd_143⟩ := hp143
                refine (show Go g κ 146 [some (.ref root2101), some (.ref ppx_a11), some (.ref x), some (.ref ppppx__a34), some (.ref ppx_a11), some (.null)] [.ref root2143] [u0_143] 0 0 from ?_)
                refine g_astore_n (q := 147) (lv2 := [some (.ref root2143), some (.ref ppx_a11), some (.ref x), some (.ref ppppx__a34), some (.ref ppx_a11), some (.null)]) B dJ40_balanceInsertion_146 rfl (Nat.le_of_ble_eq_true rfl) (rv_r _) rfl ?_
                have e9 : (rrP (rlR lf rg ppx_a11 x) (rlP lf pp ppx_a11 x) ppppx__a34 x) ppx_a11 = some x := by
                  have z1 := tr_lr (x := x) hT hbm
                  have z2 := hT.2.2.2.1 x hx ppx_a11
                  have z3 := hT.2.2.2.2.2.1 x hx ppx_a11
                  have z4 := hT.2.2.2.1 ppx_a11 hbm
                  have z5 := hT.2.2.2.2.2.1 ppx_a11 hbm
                  clear hT
                  try clear hT2_101
                  try clear hT2_196
                  clear hT2_143 E B tb
                  grind [rlP, rrP, rlL, rlR, rrL, rrR]
                have e10 : rd2143 x = false := by
                  have z := hrd_143 x hx
                  rcases z with z | z
                  · rw [z]; simp [fup, hxc]
                  · exact z.2
                refine g_goto (tgt := 5) B dJ40_balanceInsertion_147 (by decide) ?_
                refine g_fg 2 rfl ?_
                refine g_fg 3 rfl ?_
                refine g_fg 4 rfl ?_
                refine g_fg 5 rfl ?_
                exact ih5 _ (by rw [← hmu5]; exact fir_z _ c11 c25 e9 e10) ppx_a11 (rrL (rlL lf ppx_a11 x) (rlR lf rg ppx_a11 x) ppppx__a34 x) (rrR (rlR lf rg ppx_a11 x) ppppx__a34 x) (rrP (rlR lf rg ppx_a11 x) (rlP lf pp ppx_a11 x) ppppx__a34 x) rd2143 _ _ root2143 u0_143 hu0_143 (hT2_143) (hbm) rfl
            · skip
              rw [c57]
              refine (show Go g κ 60 [some (.ref root), some (.ref x), some (.ref ppx_a11), some (.ref ppppx__a34), some (.ref ppx_a11), some (.ref rgpppp_a57)] [] [l5_0] 0 0 from ?_)
              have hum := tr_rm hT hcm c57
              refine g_aload (q := 62) B dJ40_balanceInsertion_60 rfl rfl (rv_r _) ?_
              refine g_getM (v := .int (nI (if rd rgpppp_a57 = true then 1 else 0))) (q := 65) B (ci := 25) (k := 0) (j := 10) in_J40 rfl dJ40_balanceInsertion_62 rfl rfl (TNG.mem hl5_0 hum) (Nat.le_of_ble_eq_true rfl) q1747 rfl rfl ?_
              refine g_if_eq (tgt := 89) (q := 68) B dJ40_balanceInsertion_65 rfl (by decide) (bo_eq) (fun c65 => ?_) (fun c65 => ?_)
              · skip
                refine g_aload_n (q := 90) B dJ40_balanceInsertion_89 rfl rfl (rv_r _) ?_
                refine g_aload_n (q := 91) B dJ40_balanceInsertion_90 rfl rfl (rv_r _) ?_
                refine g_getM (v := va_rf (rg ppx_a11)) (q := 94) B (ci := 25) (k := 0) (j := 8) in_J40 rfl dJ40_balanceInsertion_91 rfl rfl (TNG.mem hl5_0 hbm) (Nat.le_of_ble_eq_true rfl) q1744 rfl rfl ?_
                refine g_acmp_ne (rx := some x) (ry := rg ppx_a11) (tgt := 123) (q := 97) B dJ40_balanceInsertion_94 rfl (by decide) rfl rfl (acn) (fun c94 => ?_) (fun c94 => ?_)
                · skip
                  refine g_aload_n (q := 124) B dJ40_balanceInsertion_123 rfl rfl (rv_r _) ?_
                  refine g_ifnull_r (q := 127) B dJ40_balanceInsertion_124 rfl ?_
                  refine g_aload_n (q := 128) B dJ40_balanceInsertion_127 rfl rfl (rv_r _) ?_
                  refine g_iconst (v := nI 0) (q := 129) B dJ40_balanceInsertion_128 rfl (by decide) ?_
                  refine g_putTNG10 (q := 132) (k := 0) (x := false) B hl5_0 hbm dJ40_balanceInsertion_129 rfl rfl q1747 (Or.inl rfl) (fun wa_17_129 hwa_17_129 => ?_)
                  refine (show Go g κ 132 [some (.ref root), some (.ref x), some (.ref ppx_a11), some (.ref ppppx__a34), some (.ref ppx_a11), some (.ref rgpppp_a57)] [] [wa_17_129] 0 0 from ?_)
                  refine g_aload_n (q := 133) B dJ40_balanceInsertion_132 rfl rfl (rv_r _) ?_
                  refine g_ifnull_r (q := 136) B dJ40_balanceInsertion_133 rfl ?_
                  refine g_aload_n (q := 137) B dJ40_balanceInsertion_136 rfl rfl (rv_r _) ?_
                  refine g_iconst (v := nI 1) (q := 138) B dJ40_balanceInsertion_137 rfl (by decide) ?_
                  refine g_putTNG10 (q := 141) (k := 0) (x := true) B hwa_17_129 hcm dJ40_balanceInsertion_138 rfl rfl q1747 (Or.inl rfl) (fun wa_18_138 hwa_18_138 => ?_)
                  refine (show Go g κ 141 [some (.ref root), some (.ref x), some (.ref ppx_a11), some (.ref ppppx__a34), some (.ref ppx_a11), some (.ref rgpppp_a57)] [] [wa_18_138] 0 0 from ?_)
                  refine g_aload_n (q := 142) B dJ40_balanceInsertion_141 rfl rfl (rv_r _) ?_
                  refine g_aload_n (q := 143) B dJ40_balanceInsertion_142 rfl rfl (rv_r _) ?_
                  refine g_callS (q := 146) (is := [0]) (kc2 := 0) (ks2 := 0) B [.ref root, .ref ppppx__a34] (ct_J40_rotateRight g J (ns := ns) (hs := hs) (ky := ky) (vl := vl) (nx := nx) (pp := pp) (lf := lf) (rg := rg) (pv := pv) (rd := (fup (fup rd ppx_a11 false) ppppx__a34 true)) (key := key) (lo := _) (hi := _) (root := root) (a := ppppx__a34) (b := ppx_a11) hwa_18_138 (hT) (hcm) (hlc)) dJ40_balanceInsertion_143 rfl q1714 q1715 q131 q1716 rfl rfl moJ40_rotateRight rfl rfl (by decide) (by decide) (Nat.le_of_ble_eq_true rfl) (Nat.le_of_ble_eq_true rfl) (Nat.le_of_ble_eq_true rfl) (fun _ _ hx => noX_x hx) (fun v143 L1 hp143 => ?_)
                  obtain ⟨root2143, rd2143, u0_143, rfl, rfl, hu0_143, hrt_143, hT2_143, hrd_143⟩ := hp143
                  refine (show Go g κ 146 [some (.ref root), some (.ref x), some (.ref ppx_a11), some (.ref ppppx__a34), some (.ref ppx_a11), some (.ref rgpppp_a57)] [.ref root2143] [u0_143] 0 0 from ?_)
                  refine g_astore_n (q := 147) (lv2 := [some (.ref root2143), some (.ref x), some (.ref ppx_a11), some (.ref ppppx__a34), some (.ref ppx_a11), some (.ref rgpppp_a57)]) B dJ40_balanceInsertion_146 rfl (Nat.le_of_ble_eq_true rfl) (rv_r _) rfl ?_
                  have e9 : (rrP rg pp ppppx__a34 ppx_a11) x = some ppx_a11 := by
                    have z1 := tr_lr (x := x) hT hbm
                    have z2 := hT.2.2.2.1 x hx ppx_a11
                    have z3 := hT.2.2.2.2.2.1 x hx ppx_a11
                    have z4 := hT.2.2.2.1 ppx_a11 hbm
                    have z5 := hT.2.2.2.2.2.1 ppx_a11 hbm
                    clear hT
                    try clear hT2_101
                    try clear hT2_196
                    clear hT2_143 E B tb
                    grind [rlP, rrP, rlL, rlR, rrL, rrR]
                  have e10 : rd2143 ppx_a11 = false := by
                    have z := hrd_143 ppx_a11 hbm
                    rcases z with z | z
                    · rw [z]; simp [fup, hbc]
                    · exact z.2
                  refine g_goto (tgt := 5) B dJ40_balanceInsertion_147 (by decide) ?_
                  refine g_fg 2 rfl ?_
                  refine g_fg 3 rfl ?_
                  refine g_fg 4 rfl ?_
                  refine g_fg 5 rfl ?_
                  exact ih5 _ (by rw [← hmu5]; exact fir_z _ c11 c25 e9 e10) x (rrL lf rg ppppx__a34 ppx_a11) (rrR rg ppppx__a34 ppx_a11) (rrP rg pp ppppx__a34 ppx_a11) rd2143 _ _ root2143 u0_143 hu0_143 (hT2_143) (hx) rfl
                · skip
                  have hfb : rg ppx_a11 = some x := Classical.not_not.mp c94
                  refine g_aload_n (q := 98) B dJ40_balanceInsertion_97 rfl rfl (rv_r _) ?_
                  refine g_aload_n (q := 99) B dJ40_balanceInsertion_98 rfl rfl (rv_r _) ?_
                  refine g_dup (q := 100) B dJ40_balanceInsertion_99 rfl rfl ?_
                  refine g_astore_n (q := 101) (lv2 := [some (.ref root), some (.ref ppx_a11), some (.ref ppx_a11), some (.ref ppppx__a34), some (.ref ppx_a11), some (.ref rgpppp_a57)]) B dJ40_balanceInsertion_100 rfl (Nat.le_of_ble_eq_true rfl) (rv_r _) rfl ?_
                  refine g_callS (q := 104) (is := [0]) (kc2 := 0) (ks2 := 0) B [.ref root, .ref ppx_a11] (ct_J40_rotateLeft g J (ns := ns) (hs := hs) (ky := ky) (vl := vl) (nx := nx) (pp := pp) (lf := lf) (rg := rg) (pv := pv) (rd := rd) (key := key) (lo := lo) (hi := hi) (root := root) (a := ppx_a11) (b := x) hl5_0 (hT) (hbm) (hfb)) dJ40_balanceInsertion_101 rfl q1711 q1712 q131 q1713 rfl rfl moJ40_rotateLeft rfl rfl (by decide) (by decide) (Nat.le_of_ble_eq_true rfl) (Nat.le_of_ble_eq_true rfl) (Nat.le_of_ble_eq_true rfl) (fun _ _ hx => noX_x hx) (fun v101 L1 hp101 => ?_)
                  obtain ⟨root2101, rd2101, u0_101, rfl, rfl, hu0_101, hrt_101, hT2_101, hrd_101⟩ := hp101
                  refine (show Go g κ 104 [some (.ref root), some (.ref ppx_a11), some (.ref ppx_a11), some (.ref ppppx__a34), some (.ref ppx_a11), some (.ref rgpppp_a57)] [.ref root2101] [u0_101] 0 0 from ?_)
                  have e1 : (rlP lf pp ppx_a11 x) ppx_a11 = some x := by simp [rlP]
                  have e2 : (rlP lf pp ppx_a11 x) x = pp ppx_a11 := by simp [rlP, hxb]
                  have e3 : (rlL lf ppx_a11 x) ppppx__a34 = some x := by simp [rlL, Ne.symm hxc, Ne.symm hbc, hlc]
                  have hrd1 := hrd_101
                  refine g_astore_n (q := 105) (lv2 := [some (.ref root2101), some (.ref ppx_a11), some (.ref ppx_a11), some (.ref ppppx__a34), some (.ref ppx_a11), some (.ref rgpppp_a57)]) B dJ40_balanceInsertion_104 rfl (Nat.le_of_ble_eq_true rfl) (rv_r _) rfl ?_
                  refine g_aload_n (q := 106) B dJ40_balanceInsertion_105 rfl rfl (rv_r _) ?_
                  refine g_getM (v := .ref x) (q := 109) B (ci := 25) (k := 0) (j := 6) in_J40 rfl dJ40_balanceInsertion_106 rfl rfl (TNG.mem hu0_101 hbm) (Nat.le_of_ble_eq_true rfl) q1742 rfl (congrArg some (congrArg va_rf e1)) ?_
                  refine g_dup (q := 110) B dJ40_balanceInsertion_109 rfl rfl ?_
                  refine g_astore_n (q := 111) (lv2 := [some (.ref root2101), some (.ref ppx_a11), some (.ref x), some (.ref ppppx__a34), some (.ref ppx_a11), some (.ref rgpppp_a57)]) B dJ40_balanceInsertion_110 rfl (Nat.le_of_ble_eq_true rfl) (rv_r _) rfl ?_
                  refine g_ifnonnull_r (tgt := 118) B dJ40_balanceInsertion_111 (by decide) ?_
                  refine g_aload_n (q := 119) B dJ40_balanceInsertion_118 rfl rfl (rv_r _) ?_
                  refine g_getM (v := .ref ppppx__a34) (q := 122) B (ci := 25) (k := 0) (j := 6) in_J40 rfl dJ40_balanceInsertion_119 rfl rfl (TNG.mem hu0_101 hx) (Nat.le_of_ble_eq_true rfl) q1742 rfl (congrArg some (congrArg va_rf (e2.trans c34))) ?_
                  refine g_astore_n (q := 123) (lv2 := [some (.ref root2101), some (.ref ppx_a11), some (.ref x), some (.ref ppppx__a34), some (.ref ppx_a11), some (.ref rgpppp_a57)]) B dJ40_balanceInsertion_122 rfl (Nat.le_of_ble_eq_true rfl) (rv_r _) rfl ?_
                  refine g_aload_n (q := 124) B dJ40_balanceInsertion_123 rfl rfl (rv_r _) ?_
                  refine g_ifnull_r (q := 127) B dJ40_balanceInsertion_124 rfl ?_
                  refine g_aload_n (q := 128) B dJ40_balanceInsertion_127 rfl rfl (rv_r _) ?_
                  refine g_iconst (v := nI 0) (q := 129) B dJ40_balanceInsertion_128 rfl (by decide) ?_
                  refine g_putTNG10 (q := 132) (k := 0) (x := false) B hu0_101 hx dJ40_balanceInsertion_129 rfl rfl q1747 (Or.inl rfl) (fun wa_19_129 hwa_19_129 => ?_)
                  refine (show Go g κ 132 [some (.ref root2101), some (.ref ppx_a11), some (.ref x), some (.ref ppppx__a34), some (.ref ppx_a11), some (.ref rgpppp_a57)] [] [wa_19_129] 0 0 from ?_)
                  refine g_aload_n (q := 133) B dJ40_balanceInsertion_132 rfl rfl (rv_r _) ?_
                  refine g_ifnull_r (q := 136) B dJ40_balanceInsertion_133 rfl ?_
                  refine g_aload_n (q := 137) B dJ40_balanceInsertion_136 rfl rfl (rv_r _) ?_
                  refine g_iconst (v := nI 1) (q := 138) B dJ40_balanceInsertion_137 rfl (by decide) ?_
                  refine g_putTNG10 (q := 141) (k := 0) (x := true) B hwa_19_129 hcm dJ40_balanceInsertion_138 rfl rfl q1747 (Or.inl rfl) (fun wa_20_138 hwa_20_138 => ?_)
                  refine (show Go g κ 141 [some (.ref root2101), some (.ref ppx_a11), some (.ref x), some (.ref ppppx__a34), some (.ref ppx_a11), some (.ref rgpppp_a57)] [] [wa_20_138] 0 0 from ?_)
                  refine g_aload_n (q := 142) B dJ40_balanceInsertion_141 rfl rfl (rv_r _) ?_
                  refine g_aload_n (q := 143) B dJ40_balanceInsertion_142 rfl rfl (rv_r _) ?_
                  refine g_callS (q := 146) (is := [0]) (kc2 := 0) (ks2 := 0) B [.ref root2101, .ref ppppx__a34] (ct_J40_rotateRight g J (ns := ns) (hs := hs) (ky := ky) (vl := vl) (nx := nx) (pp := rlP lf pp ppx_a11 x) (lf := rlL lf ppx_a11 x) (rg := rlR lf rg ppx_a11 x) (pv := pv) (rd := (fup (fup rd2101 x false) ppppx__a34 true)) (key := key) (lo := _) (hi := _) (root := root2101) (a := ppppx__a34) (b := x) hwa_20_138 (hT2_101) (hcm) (e3)) dJ40_balanceInsertion_143 rfl q1714 q1715 q131 q1716 rfl rfl moJ40_rotateRight rfl rfl (by decide) (by decide) (Nat.le_of_ble_eq_true rfl) (Nat.le_of_ble_eq_true rfl) (Nat.le_of_ble_eq_true rfl) (fun _ _ hx => noX_x hx) (fun v143 L1 hp143 => ?_)
                  obtain ⟨root2143, rd2143, u0_143, rfl, rfl, hu0_143, hrt_143, hT2_143, hrd_143⟩ := hp143
                  refine (show Go g κ 146 [some (.ref root2101), some (.ref ppx_a11), some (.ref x), some (.ref ppppx__a34), some (.ref ppx_a11), some (.ref rgpppp_a57)] [.ref root2143] [u0_143] 0 0 from ?_)
                  refine g_astore_n (q := 147) (lv2 := [some (.ref root2143), some (.ref ppx_a11), some (.ref x), some (.ref ppppx__a34), some (.ref ppx_a11), some (.ref rgpppp_a57)]) B dJ40_balanceInsertion_146 rfl (Nat.le_of_ble_eq_true rfl) (rv_r _) rfl ?_
                  have e9 : (rrP (rlR lf rg ppx_a11 x) (rlP lf pp ppx_a11 x) ppppx__a34 x) ppx_a11 = some x := by
                    have z1 := tr_lr (x := x) hT hbm
                    have z2 := hT.2.2.2.1 x hx ppx_a11
                    have z3 := hT.2.2.2.2.2.1 x hx ppx_a11
                    have z4 := hT.2.2.2.1 ppx_a11 hbm
                    have z5 := hT.2.2.2.2.2.1 ppx_a11 hbm
                    clear hT
                    try clear hT2_101
                    try clear hT2_196
                    clear hT2_143 E B tb
                    grind [rlP, rrP, rlL, rlR, rrL, rrR]
                  have e10 : rd2143 x = false := by
                    have z := hrd_143 x hx
                    rcases z with z | z
                    · rw [z]; simp [fup, hxc]
                    · exact z.2
                  refine g_goto (tgt := 5) B dJ40_balanceInsertion_147 (by decide) ?_
                  refine g_fg 2 rfl ?_
                  refine g_fg 3 rfl ?_
                  refine g_fg 4 rfl ?_
                  refine g_fg 5 rfl ?_
                  exact ih5 _ (by rw [← hmu5]; exact fir_z _ c11 c25 e9 e10) ppx_a11 (rrL (rlL lf ppx_a11 x) (rlR lf rg ppx_a11 x) ppppx__a34 x) (rrR (rlR lf rg ppx_a11 x) ppppx__a34 x) (rrP (rlR lf rg ppx_a11 x) (rlP lf pp ppx_a11 x) ppppx__a34 x) rd2143 _ _ root2143 u0_143 hu0_143 (hT2_143) (hbm) rfl
              · skip
                refine g_aload (q := 70) B dJ40_balanceInsertion_68 rfl rfl (rv_r _) ?_
                refine g_iconst (v := nI 0) (q := 71) B dJ40_balanceInsertion_70 rfl (by decide) ?_
                refine g_putTNG10 (q := 74) (k := 0) (x := false) B hl5_0 hum dJ40_balanceInsertion_71 rfl rfl q1747 (Or.inl rfl) (fun wa_21_71 hwa_21_71 => ?_)
                refine (show Go g κ 74 [some (.ref root), some (.ref x), some (.ref ppx_a11), some (.ref ppppx__a34), some (.ref ppx_a11), some (.ref rgpppp_a57)] [] [wa_21_71] 0 0 from ?_)
                refine g_aload_n (q := 75) B dJ40_balanceInsertion_74 rfl rfl (rv_r _) ?_
                refine g_iconst (v := nI 0) (q := 76) B dJ40_balanceInsertion_75 rfl (by decide) ?_
                refine g_putTNG10 (q := 79) (k := 0) (x := false) B hwa_21_71 hbm dJ40_balanceInsertion_76 rfl rfl q1747 (Or.inl rfl) (fun wa_22_76 hwa_22_76 => ?_)
                refine (show Go g κ 79 [some (.ref root), some (.ref x), some (.ref ppx_a11), some (.ref ppppx__a34), some (.ref ppx_a11), some (.ref rgpppp_a57)] [] [wa_22_76] 0 0 from ?_)
                refine g_aload_n (q := 80) B dJ40_balanceInsertion_79 rfl rfl (rv_r _) ?_
                refine g_iconst (v := nI 1) (q := 81) B dJ40_balanceInsertion_80 rfl (by decide) ?_
                refine g_putTNG10 (q := 84) (k := 0) (x := true) B hwa_22_76 hcm dJ40_balanceInsertion_81 rfl rfl q1747 (Or.inl rfl) (fun wa_23_81 hwa_23_81 => ?_)
                refine (show Go g κ 84 [some (.ref root), some (.ref x), some (.ref ppx_a11), some (.ref ppppx__a34), some (.ref ppx_a11), some (.ref rgpppp_a57)] [] [wa_23_81] 0 0 from ?_)
                refine g_aload_n (q := 85) B dJ40_balanceInsertion_84 rfl rfl (rv_r _) ?_
                refine g_astore_n (q := 86) (lv2 := [some (.ref root), some (.ref ppppx__a34), some (.ref ppx_a11), some (.ref ppppx__a34), some (.ref ppx_a11), some (.ref rgpppp_a57)]) B dJ40_balanceInsertion_85 rfl (Nat.le_of_ble_eq_true rfl) (rv_r _) rfl ?_
                refine g_goto (tgt := 5) B dJ40_balanceInsertion_86 (by decide) ?_
                refine g_fg 2 rfl ?_
                refine g_fg 3 rfl ?_
                refine g_fg 4 rfl ?_
                refine g_fg 5 rfl ?_
                exact ih5 _ (by rw [← hmu5]; exact fir_up hT hx c11 c34 c25) ppppx__a34 lf rg pp (fup (fup (fup rd rgpppp_a57 false) ppx_a11 false) ppppx__a34 true) lo hi root wa_23_81 hwa_23_81 (hT) (hcm) rfl
        · skip
          rw [c34]
          refine (show Go g κ 37 [some (.ref root), some (.ref x), some (.ref ppx_a11), some (.null), none, none] [] [l5_0] 0 0 from ?_)
          refine g_aload_n (q := 38) B dJ40_balanceInsertion_37 rfl rfl (rv_r _) ?_
          exact g_aret B E dJ40_balanceInsertion_38 (by first | exact Or.inl ⟨_, rfl⟩ | exact Or.inr ⟨_, rfl⟩) (rv_r _) (⟨root, lf, rg, pp, rd, lo, hi, _, rfl, rfl, hl5_0, hT⟩)
    · skip
      rw [c11]
      refine (show Go g κ 14 [some (.ref root), some (.ref x), some (.null), none, none, none] [] [l5_0] 0 0 from ?_)
      refine g_aload_n (q := 15) B dJ40_balanceInsertion_14 rfl rfl (rv_r _) ?_
      refine g_iconst (v := nI 0) (q := 16) B dJ40_balanceInsertion_15 rfl (by decide) ?_
      refine g_putTNG10 (q := 19) (k := 0) (x := false) B hl5_0 hx dJ40_balanceInsertion_16 rfl rfl q1747 (Or.inl rfl) (fun wa_24_16 hwa_24_16 => ?_)
      refine (show Go g κ 19 [some (.ref root), some (.ref x), some (.null), none, none, none] [] [wa_24_16] 0 0 from ?_)
      refine g_aload_n (q := 20) B dJ40_balanceInsertion_19 rfl rfl (rv_r _) ?_
      have hxr : root = x := Option.some.inj (hT.2.2.2.2.2.2.1 x hx c11)
      exact g_aret B E dJ40_balanceInsertion_20 (by first | exact Or.inl ⟨_, rfl⟩ | exact Or.inr ⟨_, rfl⟩) (rv_r _) (⟨x, lf, rg, pp, _, lo, hi, _, rfl, rfl, hwa_24_16, by rw [← hxr]; exact hT⟩)
  exact lp5 _ x lf rg pp (fup rd x true) lo hi root wa_1_2 hwa_1_2 (hT) (hx) rfl
