/-! THE LAW's TEXT: prices by the bytes passed, guarded leaves, lists in the making -/
def rA (s : Rd) : Nat := (rd_at_ s).toNatClampNeg
def mtk {α : Type} (n : Nat) (s s' : Rd) (K : Option α) : Option α := if rA s + n ≤ rA s' ∧ rA s' ≤ 400 then K else none
theorem mtk_s {α : Type} {n : Nat} {s s' : Rd} {K o : Option α} {v : α} (ho : o = some v) (h : mtk n s s' K = o) : (rA s + n ≤ rA s' ∧ rA s' ≤ 400) ∧ K = o := by
  unfold mtk at h
  by_cases q : rA s + n ≤ rA s' ∧ rA s' ≤ 400
  · rw [if_pos q] at h; exact ⟨q, h⟩
  · rw [if_neg q, ho] at h; exact nomatch h
theorem mtk_e {α : Type} {n : Nat} {s s' : Rd} (K : Option α) (h : rA s + n ≤ rA s' ∧ rA s' ≤ 400) : mtk n s s' K = K := if_pos h
def rdO {α : Type} (o : (String × Rd) ⊕ (α × Rd)) : Rd := match o with
  | .inl E => E.2
  | .inr q => q.2
def prc {α : Type} (K c : Nat) (srd : Rd) (o : (String × Rd) ⊕ (α × Rd)) : Nat := K * (rA (rdO o) - rA srd) + c
def rP {α : Type} (f lo cc cs : Nat) (srd : Rd) (o : (String × Rd) ⊕ (α × Rd)) : Room := rLs f (prc 50 cc srd o) (prc 5500 cs srd o) lo
noncomputable def gWd (srd : Rd) : Option Rd := mob (fX3_word srd) fun s1 => mwd s1 <| mtk 0 srd s1 <| some s1
theorem gWd_s {srd s : Rd} (h : gWd srd = some s) : fX3_word srd = some s ∧ (∃ b a : Nat, wdP s b a) ∧ rA srd ≤ rA s ∧ rA s ≤ 400 := by
  unfold gWd at h
  obtain ⟨s1, h1, h⟩ := mob_s rfl h
  obtain ⟨h2, h⟩ := mwd_s rfl h
  obtain ⟨h3, h⟩ := mtk_s rfl h
  cases h
  exact ⟨h1, h2, h3⟩
noncomputable def gFig (srd : Rd) : Option (Bool × Rd) := mo2 (fX3_isFigure srd) fun b s1 => mtk 0 srd s1 <| some (b, s1)
theorem gFig_s {srd s : Rd} {b : Bool} (h : gFig srd = some (b, s)) : fX3_isFigure srd = some (b, s) ∧ rA srd ≤ rA s ∧ rA s ≤ 400 := by
  unfold gFig at h
  obtain ⟨b1, s1, h1, h⟩ := mo2_s rfl h
  obtain ⟨h3, h⟩ := mtk_s rfl h
  cases h
  exact ⟨h1, h3⟩
noncomputable def gOver (srd : Rd) : Option (Bool × Rd) := mo2 (fX3_isOver srd) fun b s1 => mtk 0 srd s1 <| some (b, s1)
theorem gOver_s {srd s : Rd} {b : Bool} (h : gOver srd = some (b, s)) : fX3_isOver srd = some (b, s) ∧ rA srd ≤ rA s ∧ rA s ≤ 400 := by
  unfold gOver at h
  obtain ⟨b1, s1, h1, h⟩ := mo2_s rfl h
  obtain ⟨h3, h⟩ := mtk_s rfl h
  cases h
  exact ⟨h1, h3⟩
noncomputable def gSign (srd : Rd) (c : Int32) : Option (Bool × Rd) := mo2 (fX3_sign srd c) fun b s1 => mtk (if b = true then 1 else 0) srd s1 <| some (b, s1)
theorem gSign_s {srd s : Rd} {c : Int32} {b : Bool} (h : gSign srd c = some (b, s)) : fX3_sign srd c = some (b, s) ∧ rA srd + (if b = true then 1 else 0) ≤ rA s ∧ rA s ≤ 400 := by
  unfold gSign at h
  obtain ⟨b1, s1, h1, h⟩ := mo2_s rfl h
  obtain ⟨h3, h⟩ := mtk_s rfl h
  cases h
  exact ⟨h1, h3⟩
noncomputable def gPass (srd : Rd) (i : Nat) : Option (Bool × Rd) := mo2 (fX3_passes srd i) fun b s1 => mtk (if b = true then stL i else 0) srd s1 <| some (b, s1)
theorem gPass_s {srd s : Rd} {i : Nat} {b : Bool} (h : gPass srd i = some (b, s)) : fX3_passes srd i = some (b, s) ∧ rA srd + (if b = true then stL i else 0) ≤ rA s ∧ rA s ≤ 400 := by
  unfold gPass at h
  obtain ⟨b1, s1, h1, h⟩ := mo2_s rfl h
  obtain ⟨h3, h⟩ := mtk_s rfl h
  cases h
  exact ⟨h1, h3⟩
noncomputable def gNum (srd : Rd) (lo hi : Int32) : Option ((String × Rd) ⊕ (Int32 × Rd)) := mox (fX3_number srd lo hi) (fun E => mtk 0 srd E.2 <| some (.inl E)) fun q => mtk 1 srd q.2 <| some (.inr q)
theorem gNum_s {srd : Rd} {lo hi : Int32} {o : (String × Rd) ⊕ (Int32 × Rd)} (h : gNum srd lo hi = some o) : fX3_number srd lo hi = some o ∧ (∀ E, o = .inl E → rA srd ≤ rA E.2 ∧ rA E.2 ≤ 400) ∧ ∀ q, o = .inr q → rA srd + 1 ≤ rA q.2 ∧ rA q.2 ≤ 400 := by
  unfold gNum at h
  obtain ⟨o1, h1, h⟩ := mox_s rfl h
  cases o1 with
  | inl E =>
    have h := moxl h
    obtain ⟨h3, h⟩ := mtk_s rfl h
    cases h
    exact ⟨h1, fun E' e => by cases e; exact h3, fun q e => nomatch e⟩
  | inr q =>
    have h := moxr h
    obtain ⟨h3, h⟩ := mtk_s rfl h
    cases h
    exact ⟨h1, fun q e => (nomatch e), fun E' e => by cases e; exact h3⟩
noncomputable def gDeep (srd : Rd) : Option ((String × Rd) ⊕ Rd) := mox (fX3_goesDeeper srd) (fun E => mtk 0 srd E.2 <| some (.inl E)) fun s1 => mtk 0 srd s1 <| some (.inr s1)
theorem gDeep_s {srd : Rd} {o : (String × Rd) ⊕ Rd} (h : gDeep srd = some o) : fX3_goesDeeper srd = some o ∧ (∀ E, o = .inl E → rA srd ≤ rA E.2 ∧ rA E.2 ≤ 400) ∧ ∀ q, o = .inr q → rA srd ≤ rA q ∧ rA q ≤ 400 := by
  unfold gDeep at h
  obtain ⟨o1, h1, h⟩ := mox_s rfl h
  cases o1 with
  | inl E =>
    have h := moxl h
    obtain ⟨h3, h⟩ := mtk_s rfl h
    cases h
    exact ⟨h1, fun E' e => by cases e; exact h3, fun q e => nomatch e⟩
  | inr q =>
    have h := moxr h
    obtain ⟨h3, h⟩ := mtk_s rfl h
    cases h
    exact ⟨h1, fun q e => (nomatch e), fun E' e => by cases e; exact h3⟩
noncomputable def gUp (srd : Rd) : Option Rd := mob (fX3_comesUp srd) fun s1 => mtk 0 srd s1 <| some s1
theorem gUp_s {srd s : Rd} (h : gUp srd = some s) : fX3_comesUp srd = some s ∧ rA srd ≤ rA s ∧ rA s ≤ 400 := by
  unfold gUp at h
  obtain ⟨s1, h1, h⟩ := mob_s rfl h
  obtain ⟨h3, h⟩ := mtk_s rfl h
  cases h
  exact ⟨h1, h3⟩
/-- a list in the making: its cells, then those of its things -/
def LC (k : Nat → ClassId) (e0 q : Nat) (els : List Nat) (xs w : va_W) : Prop := (els = [] ∧ ∃ mc : Int32, w = lsO q e0 mc 0 :: xs) ∨ ∃ (e cap : Nat) (mc : Int32), els ≠ [] ∧ els.length ≤ cap ∧ cap < 1000 ∧ w = lsO q e mc els.length :: lsA k e cap els :: xs
theorem LC.ext {k : Nat → ClassId} {e0 q : Nat} {els : List Nat} {xs w : va_W} (h : LC k e0 q els xs w) (np : va_W) : LC k e0 q els (xs ++ np) (w ++ np) := by
  rcases h with ⟨h1, mc, rfl⟩ | ⟨e, cap, mc, h1, h2, h3, rfl⟩
  · exact Or.inl ⟨h1, mc, rfl⟩
  · exact Or.inr ⟨e, cap, mc, h1, h2, h3, rfl⟩
theorem LC.sub {k : Nat → ClassId} {e0 q : Nat} {els : List Nat} {xs w : va_W} (h : LC k e0 q els xs w) : ∀ x ∈ xs, x ∈ w := by
  rcases h with ⟨h1, mc, rfl⟩ | ⟨e, cap, mc, h1, h2, h3, rfl⟩
  · exact fun x hx => List.mem_cons_of_mem _ hx
  · exact fun x hx => List.mem_cons_of_mem _ (List.mem_cons_of_mem _ hx)
theorem LC.fin {k : Nat → ClassId} {e0 q : Nat} {els : List Nat} {xs w P : va_W} (h : LC k e0 q els xs w) (hs : ∀ x ∈ w, x ∈ P) : liAt k e0 P q els := by
  rcases h with ⟨h1, mc, rfl⟩ | ⟨e, cap, mc, h1, h2, h3, rfl⟩
  · exact Or.inl ⟨h1, mc, hs _ List.mem_cons_self⟩
  · exact Or.inr ⟨e, mc, cap, hs _ List.mem_cons_self, hs _ (List.mem_cons_of_mem _ List.mem_cons_self), h2, by omega⟩
def adS : List Nat → Nat
  | [] => 10
  | _ :: _ => 602
section ZAD
variable {p : Program} {l : Launch} {e : Env} {R : Room} {s : State} {m : MethodId} {args : Array Value} {below : List Frame} {meth : Method} {c : Code} {H : Heap} {locs : List Loc} {cells slots : Nat} {Q : State → Prop}
variable {pc : Nat} {ls : Array Slot} {rest : List Value} {D : va_G} {k : Nat → ClassId} {Z : zZ} {A : Nat → Prop} {cc : ByteArray} {own : String} {nL index e0 mi q x : Nat} {els : List Nat} {xs w : va_W}
/-- a thing more -/
theorem cAdd (pre : va_W) (hL : LC k e0 q els xs w) (hn : els.length ≤ 400) (hel : ∀ y ∈ els, elIn xs y) (hx9 : elIn xs x) (S : CallFix p m c cc nL s args lw_all own) (hOK : zOK D zCl (zTys k) Z) (hLs : zLs Z e0 mi) (hz : Z A s s.heap) (hS : va_S A s.heap H locs) (hA : ∀ q : Nat, s.heap.size ≤ q → A q) (hP : va_P D zCl (pre ++ w) H) (hD : va_D A (pre ++ w))
    (hlk : Cond.methodLink own index yJ2_add ∈ lw_all) (hR : 7 ≤ R.frames ∧ 251 ≤ R.locals) (hl : ls.size = nL) (hW : 2 * (F0 m pc ls (.ref x :: .ref q :: rest)).monitorRoom + (rest.map fun v => v.category).sum ≤ 8) (hf : cells + 1 ≤ R.cells ∧ slots + adS els ≤ R.slots) (hdg : decode cc pc = .ok (.invokevirtual index, 3))
    (kk : ∀ (w' : va_W) (H1 : Heap) (locs1 : List Loc), LC k e0 q (els ++ [x]) xs w' → va_P D zCl (pre ++ w') H1 → va_D A (pre ++ w') → va_S A s.heap H1 locs1 → W p l e R s m args below meth c H1 locs1 (cells + 1) (slots + adS els) Q (F0 m (pc + 3) ls (.int (bz true) :: rest))) : W p l e R s m args below meth c H locs cells slots Q (F0 m pc ls (.ref x :: .ref q :: rest)) := by
  have hts := S.2.2.2.2
  rcases hL with ⟨rfl, mc, rfl⟩ | ⟨e1, cap, mc, h1, h2, h3, rfl⟩
  · exact cWVP pre (lsO q e0 mc 0 :: xs) (As := [.ref x]) (ci := 15) S hOK hz hS hA hP hD (mtJ2_addz l D k Z hOK hLs q x mc xs hx9) (kJ2_add hts hlk rfl rfl ⟨(by show 4 + 1 ≤ R.frames; omega), (by show 8 + (2 + 11) + 150 ≤ R.locals; omega)⟩) 0 rfl rfl rfl hl rfl hW hf hdg (fun r w' H1 locs1 hq g2 g3 g4 => by
      obtain ⟨e', rfl, rfl⟩ := hq
      exact kk _ H1 locs1 (Or.inr ⟨e', 10, _, by simp, by simp, by omega, rfl⟩) g2 g3 g4)
  · have hp : els.length ≠ 0 := fun z => h1 (List.eq_nil_of_length_eq_zero z)
    have hads : adS els = 602 := by
      cases els with
      | nil => exact absurd rfl h1
      | cons _ _ => rfl
    rw [hads] at hf kk
    by_cases hc : els.length < cap
    · exact cWVP pre (lsO q e1 mc els.length :: lsA k e1 cap els :: xs) (As := [.ref x]) (ci := 15) S hOK hz hS hA hP hD (mtJ2_addn l D k Z hOK hLs q e1 x mc els.length cap els xs rfl hc (by omega) hx9) (kJ2_add hts hlk rfl rfl ⟨(by show 1 + 1 ≤ R.frames; omega), (by show 8 + (2 + 11) + 30 ≤ R.locals; omega)⟩) 0 rfl rfl rfl hl rfl hW ⟨by omega, by omega⟩ hdg (fun r w' H1 locs1 hq g2 g3 g4 => by
        obtain ⟨rfl, rfl⟩ := hq
        refine W.widen (k := cells + 1) (n := slots + 602) (by omega) (by omega) ?_
        exact kk _ H1 locs1 (Or.inr ⟨e1, cap, mc + nI 1, by simp, by rw [List.length_append]; exact hc, h3, by rw [List.length_append]; rfl⟩) g2 g3 g4)
    · obtain rfl : els.length = cap := by omega
      have hcap : lsCap els.length ≤ 602 := by unfold lsCap; omega
      exact cWVP pre (lsO q e1 mc els.length :: lsA k e1 els.length els :: xs) (As := [.ref x]) (ci := 15) S hOK hz hS hA hP hD (mtJ2_addg l D k Z hOK hLs q e1 x mc els.length els xs rfl (by omega) (by omega) hel hx9) (kJ2_add hts hlk rfl rfl ⟨(by show 6 + 1 ≤ R.frames; omega), (by show 8 + (2 + 11) + 230 ≤ R.locals; omega)⟩) 0 rfl rfl rfl hl rfl hW ⟨by omega, by omega⟩ hdg (fun r w' H1 locs1 hq g2 g3 g4 => by
        obtain ⟨e', rfl, rfl⟩ := hq
        refine W.widen (k := cells + 1) (n := slots + 602) (by omega) (by omega) ?_
        exact kk _ H1 locs1 (Or.inr ⟨e', lsCap els.length, mc + nI 1, by simp, by rw [List.length_append]; show els.length + 1 ≤ _; unfold lsCap; omega, by omega, by rw [List.length_append]; rfl⟩) g2 g3 g4)
variable {y : MethodName} {cy : ByteArray} {mL n : Nat} {ret : Option FieldType} {rm : Room} {C : String} {b : Addr} {As st0 : List Value} {ci N mc ms : Nat} {T0 : u_T} {fs : List Value} {ws : va_W} {P : Option Value → va_W → Prop} {PX : String → va_W → Prop}
theorem widX {Qc : Array Value → State → Outcome → State → Prop} {XC : String → State → State → Prop} {free : Addr → Prop} {a : Array Value} {g : JFrame} (h1 : cells ≤ mc) (h2 : slots ≤ ms) (kk : W p l e R s m args below meth c H locs mc ms (vx_MQ below Qc XC a s mc ms free) g) : W p l e R s m args below meth c H locs cells slots (vx_MQ below Qc XC a s mc ms free) g := W.widen h1 h2 kk
theorem cXV0 (S : CallFix p m c cc nL s args lw_all own) (hOK : zOK D zCl (zTys k) Z) (hz : Z A s s.heap) (hS : va_S A s.heap H locs) (hA : ∀ q : Nat, s.heap.size ≤ q → A q) (hP : va_P D zCl ws H) (hD : va_D A ws) (hM : CtX l y cy mL ret rm Z D zCl ws (.ref b :: As) P PX mc ms) (cw : CallW R s args own C index y cy mL ret (ws_ y cy mL ret) rm mc ms n)
    (q0 : Nat) (he : ws[q0]? = some (b, .inr (ci, fs))) (hc : zCl[ci]? = some (C, T0, N)) (hn : As.length = n) (hl : ls.size = nL) (hst : st0 = As.reverse ++ .ref b :: rest) (hW : 2 * (F0 m pc ls st0).monitorRoom + (rest.map fun v => v.category).sum ≤ 8) (hf : cells + mc ≤ R.cells ∧ slots + ms ≤ R.slots) (hdg : decode cc pc = .ok (.invokevirtual index, 3))
    (kx : ∀ (E : String) (ws' : va_W) (ce : Cell) (q9 : Addr) (H1 : Heap) (locs1 : List Loc), PX E ws' → va_P D zCl ws' H1 → va_D A ws' → va_S A s.heap H1 locs1 → H1[q9]? = some ce → ce.vm = .none → s.vm.findClass E = some ce.cls → vx_W p l e R s m args below meth c H1 locs1 (cells + mc) (slots + ms) Q (F0 m pc ls rest) q9)
    (kk : ∀ (r : Option Value) (ws' : va_W) (H1 : Heap) (locs1 : List Loc), P r ws' → va_P D zCl ws' H1 → va_D A ws' → va_S A s.heap H1 locs1 → W p l e R s m args below meth c H1 locs1 (cells + mc) (slots + ms) Q (F0 m (pc + 3) ls (r.toList ++ rest))) : W p l e R s m args below meth c H locs cells slots Q (F0 m pc ls st0) :=
  cXV [] ws [] S hOK hz hS hA (by simpa only [List.nil_append, List.append_nil] using hP) (by simpa only [List.nil_append, List.append_nil] using hD) hM cw q0 he hc hn hl hst hW hf hdg (fun E ws' ce q9 H1 locs1 h1 h2 h3 h4 h5 h6 h7 => kx E ws' ce q9 H1 locs1 h1 (by simpa only [List.nil_append, List.append_nil] using h2) (by simpa only [List.nil_append, List.append_nil] using h3) h4 h5 h6 h7) (fun r ws' H1 locs1 h1 h2 h3 h4 => kk r ws' H1 locs1 h1 (by simpa only [List.nil_append, List.append_nil] using h2) (by simpa only [List.nil_append, List.append_nil] using h3) h4)
end ZAD
theorem pw.snoc {α : Type} {R : Nat → α → Prop} {els : List Nat} {gs : List α} {x : Nat} {g : α} (h : pw R els gs) (hx : R x g) : pw R (els ++ [x]) (gs ++ [g]) := by
  refine ⟨by simp [h.1], fun i y z hy hz => ?_⟩
  rcases Nat.lt_trichotomy i els.length with q | q | q
  · rw [List.getElem?_append_left q] at hy
    rw [List.getElem?_append_left (by rw [h.1]; exact q)] at hz
    exact h.2 i y z hy hz
  · subst q
    rw [List.getElem?_append_right (Nat.le_refl _), Nat.sub_self] at hy
    rw [List.getElem?_append_right (by rw [h.1]; exact Nat.le_refl _), h.1, Nat.sub_self] at hz
    cases hy
    cases hz
    exact hx
  · rw [List.getElem?_eq_none (by simp; omega)] at hy
    exact nomatch hy
theorem pw.imp {α : Type} {R R' : Nat → α → Prop} {els : List Nat} {gs : List α} (h : pw R els gs) (hi : ∀ x g, R x g → R' x g) : pw R' els gs := ⟨h.1, fun i x g a b => hi _ _ (h.2 i x g a b)⟩
theorem pw.nil {α : Type} {R : Nat → α → Prop} : pw R [] [] := ⟨rfl, fun i x g a _ => by simp at a⟩
