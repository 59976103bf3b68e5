/-! THE LAW's EVALUATION: its objects lie in a pool P of cells that nobody changes -/
def liAt (k : Nat → ClassId) (e0 : Nat) (P : va_W) (q : Nat) (els : List Nat) : Prop :=
  (els = [] ∧ ∃ mc, lsO q e0 mc 0 ∈ P) ∨ ∃ (e : Nat) (mc : Int32) (cap : Nat), lsO q e mc els.length ∈ P ∧ lsA k e cap els ∈ P ∧ els.length ≤ cap ∧ cap < 2 ^ 26
def scF (i : Nat) (sc : Sc) : Int32 := match i with
  | 0 => sc_guest sc
  | 1 => sc_room sc
  | 2 => sc_wish sc
  | 3 => sc_doubted sc
  | 4 => sc_towers sc
  | 5 => sc_holes sc
  | _ => sc_week sc
def prAt (aF : Nat → Nat) (P : va_W) (q : Nat) (g : Sc → Int32) : Prop :=
  (∃ n, (q, Sum.inr (13, [.int n, .null])) ∈ P ∧ g = fun _ => n) ∨ ∃ (i : Nat) (n : Int32), i < 7 ∧ (q, Sum.inr (13, [.int n, .ref (aF i)])) ∈ P ∧ g = scF i
def sumV (gs : List (Sc → Int32)) (sc : Sc) : Int32 := gs.foldl (fun a g => a + g sc) 0
/-- two lists, place by place -/
def pw {α : Type} (R : Nat → α → Prop) (els : List Nat) (gs : List α) : Prop := gs.length = els.length ∧ ∀ (i x : Nat) (g : α), els[i]? = some x → gs[i]? = some g → R x g
def smAt (k : Nat → ClassId) (e0 : Nat) (aF : Nat → Nat) (P : va_W) (q : Nat) (g : Sc → Int32) : Prop :=
  ∃ (ql : Nat) (els : List Nat) (gs : List (Sc → Int32)), (q, Sum.inr (12, [.ref ql])) ∈ P ∧ liAt k e0 P ql els ∧ pw (prAt aF P) els gs ∧ g = sumV gs
def rowV (b : Bool) (gs : List (Sc → Bool)) (sc : Sc) : Bool := if b = true then gs.all (fun g => g sc) else gs.any (fun g => g sc)
def cnAt (k : Nat → ClassId) (e0 : Nat) (aF : Nat → Nat) (P : va_W) : Nat → Nat → (Sc → Bool) → Prop
  | 0 => fun _ _ => False
  | d + 1 => fun q f =>
    (∃ b, (q, Sum.inr (11, [.int (bz b)])) ∈ P ∧ f = fun sc => if b = true then sc_key sc else sc_eve sc) ∨
    (∃ (qa qb : Nat) (ga gb : Sc → Int32), (q, Sum.inr (14, [.ref qa, .ref qb])) ∈ P ∧ smAt k e0 aF P qa ga ∧ smAt k e0 aF P qb gb ∧ f = fun sc => decide (ga sc < gb sc)) ∨
    (∃ (qa : Nat) (g : Sc → Bool), (q, Sum.inr (10, [.ref qa])) ∈ P ∧ cnAt k e0 aF P d qa g ∧ f = fun sc => !g sc) ∨
    ∃ (b : Bool) (ql : Nat) (els : List Nat) (gs : List (Sc → Bool)), (q, Sum.inr (9, [.int (bz b), .ref ql])) ∈ P ∧ liAt k e0 P ql els ∧ pw (cnAt k e0 aF P d) els gs ∧ f = rowV b gs
def lnAt (k : Nat → ClassId) (e0 : Nat) (aF : Nat → Nat) (P : va_W) (d q : Nat) (f : Sc → Int32) : Prop :=
  ∃ (b : Bool) (n : Int32), ((q, Sum.inr (8, [.int (bz b), .int n, .null])) ∈ P ∧ f = fun _ => if b = true then n else -n) ∨
    ∃ (w : Nat) (g : Sc → Bool), (q, Sum.inr (8, [.int (bz b), .int n, .ref w])) ∈ P ∧ cnAt k e0 aF P d w g ∧ f = fun sc => if g sc = true then (if b = true then n else -n) else 0
def lwAt (k : Nat → ClassId) (e0 : Nat) (aF : Nat → Nat) (P : va_W) (d q n : Nat) (f : Sc → Int32) : Prop :=
  ∃ (ql : Nat) (els : List Nat) (gs : List (Sc → Int32)), (q, Sum.inr (7, [.ref ql])) ∈ P ∧ liAt k e0 P ql els ∧ n = els.length ∧ pw (lnAt k e0 aF P d) els gs ∧ f = sumV gs
/-! a larger pool -/
theorem liAt.mono {k : Nat → ClassId} {e0 : Nat} {P P' : va_W} {q : Nat} {els : List Nat} (h : liAt k e0 P q els) (hs : ∀ x ∈ P, x ∈ P') : liAt k e0 P' q els := by
  rcases h with ⟨h1, mc, h2⟩ | ⟨e, mc, cap, h1, h2, h3⟩
  · exact Or.inl ⟨h1, mc, hs _ h2⟩
  · exact Or.inr ⟨e, mc, cap, hs _ h1, hs _ h2, h3⟩
theorem prAt.mono {aF : Nat → Nat} {P P' : va_W} {q : Nat} {g : Sc → Int32} (h : prAt aF P q g) (hs : ∀ x ∈ P, x ∈ P') : prAt aF P' q g := by
  rcases h with ⟨n, h1, h2⟩ | ⟨i, n, h0, h1, h2⟩
  · exact Or.inl ⟨n, hs _ h1, h2⟩
  · exact Or.inr ⟨i, n, h0, hs _ h1, h2⟩
theorem smAt.mono {k : Nat → ClassId} {e0 : Nat} {aF : Nat → Nat} {P P' : va_W} {q : Nat} {g : Sc → Int32} (h : smAt k e0 aF P q g) (hs : ∀ x ∈ P, x ∈ P') : smAt k e0 aF P' q g := by
  obtain ⟨ql, els, gs, h1, h2, h3, h4⟩ := h
  exact ⟨ql, els, gs, hs _ h1, h2.mono hs, ⟨h3.1, fun i x g a b => (h3.2 i x g a b).mono hs⟩, h4⟩
theorem cnAt.mono {k : Nat → ClassId} {e0 : Nat} {aF : Nat → Nat} {P P' : va_W} (hs : ∀ x ∈ P, x ∈ P') : ∀ (d d' : Nat) (q : Nat) (f : Sc → Bool), d ≤ d' → cnAt k e0 aF P d q f → cnAt k e0 aF P' d' q f := by
  intro d
  induction d with
  | zero => exact fun _ _ _ _ h => h.elim
  | succ d ih =>
    intro d' q f hd h
    obtain ⟨d', rfl⟩ : ∃ z, d' = z + 1 := ⟨d' - 1, by omega⟩
    rcases h with ⟨b, h1, h2⟩ | ⟨qa, qb, ga, gb, h1, h2, h3, h4⟩ | ⟨qa, g, h1, h2, h3⟩ | ⟨b, ql, els, gs, h1, h2, h3, h4⟩
    · exact Or.inl ⟨b, hs _ h1, h2⟩
    · exact Or.inr (Or.inl ⟨qa, qb, ga, gb, hs _ h1, h2.mono hs, h3.mono hs, h4⟩)
    · exact Or.inr (Or.inr (Or.inl ⟨qa, g, hs _ h1, ih d' _ _ (by omega) h2, h3⟩))
    · exact Or.inr (Or.inr (Or.inr ⟨b, ql, els, gs, hs _ h1, h2.mono hs, ⟨h3.1, fun i x g a b => ih d' _ _ (by omega) (h3.2 i x g a b)⟩, h4⟩))
theorem lnAt.mono {k : Nat → ClassId} {e0 : Nat} {aF : Nat → Nat} {P P' : va_W} {d d' q : Nat} {f : Sc → Int32} (h : lnAt k e0 aF P d q f) (hs : ∀ x ∈ P, x ∈ P') (hd : d ≤ d') : lnAt k e0 aF P' d' q f := by
  obtain ⟨b, n, ⟨h1, h2⟩ | ⟨w, g, h1, h2, h3⟩⟩ := h
  · exact ⟨b, n, Or.inl ⟨hs _ h1, h2⟩⟩
  · exact ⟨b, n, Or.inr ⟨w, g, hs _ h1, cnAt.mono hs _ _ _ _ hd h2, h3⟩⟩
theorem lwAt.mono {k : Nat → ClassId} {e0 : Nat} {aF : Nat → Nat} {P P' : va_W} {d d' q n : Nat} {f : Sc → Int32} (h : lwAt k e0 aF P d q n f) (hs : ∀ x ∈ P, x ∈ P') (hd : d ≤ d') : lwAt k e0 aF P' d' q n f := by
  obtain ⟨ql, els, gs, h1, h2, h3, h4, h5⟩ := h
  exact ⟨ql, els, gs, hs _ h1, h2.mono hs, h3, ⟨h4.1, fun i x g a b => (h4.2 i x g a b).mono hs hd⟩, h5⟩
/-! what the statics say: the facts; the interface -/
def zFa (Z : zZ) (aF : Nat → Nat) : Prop := ∀ A U H, Z A U H → ∀ i, i < 7 → va_O "SaturdayKeep$Fact" (aF i) A U H ∧ va_OF "java/lang/Enum" "ordinal" "I" (.int (nI i)) (aF i) A U H
def yCond : MethodName := ⟨"SaturdayKeep$Cond", "holds", "(LSaturdayKeep$Scene;)Z"⟩
def zFw (Z : zZ) : Prop := ∀ A U H, Z A U H → va_Fw RX10 yCond yX10_holds U ∧ va_Fw RX11 yCond yX11_holds U ∧ va_Fw RX12 yCond yX12_holds U ∧ va_Fw RX16 yCond yX16_holds U
theorem zin {k : Nat → ClassId} {asc : Nat → Nat} {P : va_W} {sc : Sc} {x : Nat × va_E} (h : x ∈ P) : ∃ i : Nat, (cS k asc sc ++ P)[i]? = some x := List.getElem?_of_mem (List.mem_append_right _ h)
theorem kX8_turns {R : Room} {s : State} {args : Array Value} {own : String} {idx mc ms : Nat} {rm : Room} (hts : ∀ w ∈ lw_all, w.before args s = true) (hl : Cond.methodLink own idx yX8_turns ∈ lw_all) (hrc : rm.cells = mc) (hrs : rm.slots = ms) (hR : rm.frames + 1 ≤ R.frames ∧ 8 + (4 + 11) + rm.locals ≤ R.locals) : CallW R s args own RX8 idx yX8_turns cX8_turns 4 (some .int) (ws_ yX8_turns cX8_turns 4 (some .int)) rm mc ms 1 :=
  cwV 1 hts (lw_V hl q463 q464 q134 q465) rfl hrc hrs (by decide +kernel) hR
theorem kX9_by {R : Room} {s : State} {args : Array Value} {own : String} {idx mc ms : Nat} {rm : Room} (hts : ∀ w ∈ lw_all, w.before args s = true) (hl : Cond.methodLink own idx yX9_by ∈ lw_all) (hrc : rm.cells = mc) (hrs : rm.slots = ms) (hR : rm.frames + 1 ≤ R.frames ∧ 8 + (2 + 11) + rm.locals ≤ R.locals) : CallW R s args own RX9 idx yX9_by cX9_by 2 (some .int) (ws_ yX9_by cX9_by 2 (some .int)) rm mc ms 1 :=
  cwV 1 hts (lw_V hl q486 q487 q135 q488) rfl hrc hrs (by decide +kernel) hR
theorem kX13_in {R : Room} {s : State} {args : Array Value} {own : String} {idx mc ms : Nat} {rm : Room} (hts : ∀ w ∈ lw_all, w.before args s = true) (hl : Cond.methodLink own idx yX13_in ∈ lw_all) (hrc : rm.cells = mc) (hrs : rm.slots = ms) (hR : rm.frames + 1 ≤ R.frames ∧ 8 + (4 + 11) + rm.locals ≤ R.locals) : CallW R s args own RX13 idx yX13_in cX13_in 4 (some .int) (ws_ yX13_in cX13_in 4 (some .int)) rm mc ms 1 :=
  cwV 1 hts (lw_V hl q500 q501 q139 q502) rfl hrc hrs (by decide +kernel) hR
theorem kX14_in {R : Room} {s : State} {args : Array Value} {own : String} {idx mc ms : Nat} {rm : Room} (hts : ∀ w ∈ lw_all, w.before args s = true) (hl : Cond.methodLink own idx yX14_in ∈ lw_all) (hrc : rm.cells = mc) (hrs : rm.slots = ms) (hR : rm.frames + 1 ≤ R.frames ∧ 8 + (2 + 11) + rm.locals ≤ R.locals) : CallW R s args own RX14 idx yX14_in cX14_in 2 (some .int) (ws_ yX14_in cX14_in 2 (some .int)) rm mc ms 1 :=
  cwV 1 hts (lw_V hl q507 q508 q140 q509) rfl hrc hrs (by decide +kernel) hR
theorem kX4_of {R : Room} {s : State} {args : Array Value} {own : String} {idx mc ms : Nat} {rm : Room} (hts : ∀ w ∈ lw_all, w.before args s = true) (hl : Cond.methodLink own idx yX4_of ∈ lw_all) (hrc : rm.cells = mc) (hrs : rm.slots = ms) (hR : rm.frames + 1 ≤ R.frames ∧ 8 + (2 + 11) + rm.locals ≤ R.locals) : CallW R s args own RX4 idx yX4_of cX4_of 2 (some .int) (ws_ yX4_of cX4_of 2 (some .int)) rm mc ms 1 :=
  cwV 1 hts (lw_V hl q511 q512 q110 q513) rfl hrc hrs (by decide +kernel) hR
theorem lw_F {own : String} {idx : Nat} {C : String} {x y : MethodName} {b : ByteArray} {L : Nat} {r : Option FieldType} (h1 : Cond.methodLink own idx x ∈ lw_all) (h2 : Cond.selects C x y ∈ lw_all) (h3 : Cond.instanceMethod y ∈ lw_all) (h4 : Cond.initialized y.cls ∈ lw_all) (h5 : Cond.code y b L r ∈ lw_all) : GoodIn lw_all (va_wsF own idx C x y (ws_ y b L r)) := by
  refine lw_app ?_ (lw_meth h5)
  intro w hw
  simp only [List.mem_cons, List.not_mem_nil, or_false] at hw
  rcases hw with e | e | e | e
  · rw [e]; exact h1
  · rw [e]; exact h2
  · rw [e]; exact h3
  · rw [e]; exact h4
section ZF
variable {p : Program} {l : Launch} {e : Env} {R : Room} {s : State} {m : MethodId} {args : Array Value} {below : List Frame} {meth : Method} {c : Code} {H : Heap} {locs : List Loc} {cells slots : Nat} {Q : State → Prop}
variable {pc : Nat} {ls : Array Slot} {rest st0 : List Value} {D : va_G} {cl : List vw_C} {tys : List (ClassId × FieldType)} {Z : zZ} {A : Nat → Prop} {ws : va_W} {cc : ByteArray}
variable {x y : MethodName} {cy : ByteArray} {mL nL n index count : Nat} {ret : Option FieldType} {rm : Room} {own C owner : String} {b : Addr} {As : List Value} {ci N : Nat} {T0 : u_T} {fs : List Value}
theorem cl_R5 {r : Option Value} {a : Array Value} (hr : va_Run5 p l e R s m args below meth c H locs cells slots 0 0 (F0 m pc ls st0) rest (QRr r a) (fun _ => False)) (kk : W p l e R s m args below meth c H locs cells slots Q (F0 m (pc + 5) ls (r.toList ++ rest))) : W p l e R s m args below meth c H locs cells slots Q (F0 m pc ls st0) := by
  intro T hT X
  obtain ⟨v, st₀, t, T', L, h0, X', hL, e1, e2, ⟨hv, hh⟩, st⟩ := hr T hT X
  cases hv
  have hL0 : L = [] := List.eq_nil_iff_forall_not_mem.mpr (fun q hq => hL q hq)
  subst hL0
  rw [List.append_nil] at X'
  obtain ⟨t2, a1, b1⟩ := kk T' (by rw [e1, hh, h0]) X'
  exact ⟨t2, st t2 a1, b1⟩
/-- a call by an interface, of what only reads -/
theorem cRF {r : Option Value} (S : CallFix p m c cc nL s args lw_all own) (hOK : zOK D cl tys Z) (hz : Z A s s.heap) (hS : va_S A s.heap H locs) (hPc : va_P D cl ws H) (hM : CtR l y cy mL ret rm Z D cl ws (.ref b :: As) r) (cw : va_CI R s args own C index x y cy mL ret (ws_ y cy mL ret) rm 0 0 n)
    (q0 : Nat) (he : ws[q0]? = some (b, .inr (ci, fs))) (hc : cl[ci]? = some (C, T0, N)) (hn : As.length = n) (hl : ls.size = nL) (hst : st0 = As.reverse ++ .ref b :: rest) (hW : 2 * (F0 m pc ls st0).monitorRoom + (rest.map fun v => v.category).sum ≤ 8) (hf : cells ≤ R.cells ∧ slots ≤ R.slots) (hdg : decode cc pc = .ok (.invokeinterface index count, 5))
    (kk : W p l e R s m args below meth c H locs cells slots Q (F0 m (pc + 5) ls (r.toList ++ rest))) : W p l e R s m args below meth c H locs cells slots Q (F0 m pc ls st0) :=
  cl_R5 (va_runF (Qc := QRr r) (Pc := PcR Z D cl ws (.ref b :: As)) ((hOK.1 _ _ _ hz).1 ci _ hc).2 S hM cw ⟨blindR hOK, va_recv (q := (C, T0, N)) (hOK.1 _ _ _ hz) hPc hc he, readyR hOK hz hS hPc⟩ rfl hn hl hst hW hdg hf) kk
/-- a call of an inherited method, through an object that isn't among the cells -/
theorem cRUg {r : Option Value} (S : CallFix p m c cc nL s args lw_all own) (hOK : zOK D cl tys Z) (hz : Z A s s.heap) (hS : va_S A s.heap H locs) (hPc : va_P D cl ws H) (hM : CtR l y cy mL ret rm Z D cl ws (.ref b :: As) r) (cw : va_CU R s args own C owner index x y cy mL ret (ws_ y cy mL ret) rm 0 0 n)
    (hrec : ∃ cell : Cell, H[b]? = some cell ∧ cell.vm.isStatics = false ∧ s.vm.findClass C = some cell.cls) (hn : As.length = n) (hl : ls.size = nL) (hst : st0 = As.reverse ++ .ref b :: rest) (hW : 2 * (F0 m pc ls st0).monitorRoom + (rest.map fun v => v.category).sum ≤ 8) (hf : cells ≤ R.cells ∧ slots ≤ R.slots) (hdg : decode cc pc = .ok (.invokevirtual index, 3))
    (kk : W p l e R s m args below meth c H locs cells slots Q (F0 m (pc + 3) ls (r.toList ++ rest))) : W p l e R s m args below meth c H locs cells slots Q (F0 m pc ls st0) :=
  cl_R (va_runU (Qc := QRr r) (Pc := PcR Z D cl ws (.ref b :: As)) S hM cw ⟨blindR hOK, hrec, readyR hOK hz hS hPc⟩ rfl hn hl hst hW hdg hf) kk
end ZF
def rLw (f lo : Nat) : Room := { frames := f, cells := 0, slots := 0, locals := lo }
set_option maxRecDepth 100000 in
theorem mtJ18_ordinal (l : Launch) (D : va_G) (k : Nat → ClassId) (Z : zZ) (hOK : zOK D zCl (zTys k) Z) (asc : Nat → Nat) (P : va_W) (sc : Sc) (aF : Nat → Nat) (hFa : zFa Z aF) (i : Nat) (hi : i < 7) : CtR l yJ18_ordinal cJ18_ordinal 1 (some .int) (rLw 0 0) Z D zCl (cS k asc sc ++ P) [.ref (aF i)] (some (.int (nI i))) := by
  refine CtR.of (by decide) (Nat.le_of_ble_eq_true rfl) ?_
  intro p e9 s m args below meth c hE hP hz ls hl
  obtain ⟨hx, hb, hr, hml, hown, hts, hlocks, hname⟩ := hE
  have hown : s.vm.findClass RJ18 = some m.cls := hown
  have hK := hOK.1 _ _ _ hz
  have hN := hOK.2.1 _ _ _ hz
  have hl : lv_has ls 1 [(0, .ref (aF i))] := hl
  refine lv_aload_n hx hb dJ18_ordinal_0 rfl (lv_at hl 0 rfl) ?_
  refine vk_getf hx hb (hFa _ _ _ hz i hi).2 va_S.rf hown (hts _ q2542) (fun _ h9 => h9) dJ18_ordinal_1 ?_
  exact retR_i hx hb hr hlocks rfl dJ18_ordinal_4
theorem zFrec {C : String} {a : Nat} {A : Nat → Prop} {s : State} {H : Heap} (h : va_O C a A s H) : ∃ cell : Cell, H[a]? = some cell ∧ cell.vm.isStatics = false ∧ s.vm.findClass C = some cell.cls := by
  obtain ⟨cell, h1, h2, h3, -⟩ := h
  exact ⟨cell, h1, h2, h3⟩
set_option maxRecDepth 100000 in
theorem mtX4_of (l : Launch) (D : va_G) (k : Nat → ClassId) (Z : zZ) (hOK : zOK D zCl (zTys k) Z) (asc : Nat → Nat) (P : va_W) (sc : Sc) (aF : Nat → Nat) (hFa : zFa Z aF) (i : Nat) (hi : i < 7) : CtR l yX4_of cX4_of 2 (some .int) (rLw 1 30) Z D zCl (cS k asc sc ++ P) [.ref (asc 0), .ref (aF i)] (some (.int (scF i sc))) := by
  refine CtR.of (by decide) (Nat.le_of_ble_eq_true rfl) ?_
  intro p e9 s m args below meth c hE hP hz ls hl
  obtain ⟨hx, hb, hr, hml, hown, hts, hlocks, hname⟩ := hE
  have hown : s.vm.findClass RX4 = some m.cls := hown
  have hK := hOK.1 _ _ _ hz
  have hN := hOK.2.1 _ _ _ hz
  have hl : lv_has ls 2 [(0, .ref (asc 0)), (1, .ref (aF i))] := hl
  refine lv_aload_n hx hb dX4_of_0 rfl (lv_at hl 1 rfl) ?_
  refine cRUg (C := "SaturdayKeep$Fact") (As := []) ⟨hx, hb, hml, hown, hts⟩ hOK hz va_S.rf hP (mtJ18_ordinal l D k Z hOK asc P sc aF hFa i hi) (va_cwU 0 hts (lw_app (lw_in ([.methodLink "SaturdayKeep$Scene" 7 ⟨"SaturdayKeep$Fact", "ordinal", "()I"⟩, .sameMethod "SaturdayKeep$Fact" "java/lang/Enum" "ordinal" "()I", .selects "SaturdayKeep$Fact" ⟨"SaturdayKeep$Fact", "ordinal", "()I"⟩ yJ18_ordinal, .instanceMethod yJ18_ordinal, .initialized "java/lang/Enum"] : List Cond) [514, 515, 517, 518, 141] (by decide +kernel) (by decide +kernel)) (lw_meth q519)) rfl rfl rfl rfl (by decide +kernel) ⟨Nat.le_of_ble_eq_true rfl, Nat.le_of_ble_eq_true rfl⟩) (zFrec (hFa _ _ _ hz i hi).1) rfl hl.1 rfl (lv_room (Nat.le_of_ble_eq_true rfl)) ⟨Nat.le_of_ble_eq_true rfl, Nat.le_of_ble_eq_true rfl⟩ dX4_of_1 ?_
  have h7 : i = 0 ∨ i = 1 ∨ i = 2 ∨ i = 3 ∨ i = 4 ∨ i = 5 ∨ i = 6 := by omega
  rcases h7 with rfl | rfl | rfl | rfl | rfl | rfl | rfl
  · refine lv_tableIn (off := 40) (tgt := 44) hx hb dX4_of_4 (by decide) (by decide) rfl (by decide) ?_
    refine lv_aload_n hx hb dX4_of_44 rfl (lv_at hl 0 rfl) ?_
    refine va_get (ci := 4) (v := .int (sc_guest sc)) (C := RX4) (T := TX4) (N := 9) hx hb hts in_X4 hown hK hP 0 rfl rfl 0 (by decide) (hts _ q293) (fun _ h9 => h9) rfl dX4_of_45 ?_
    exact retR_i hx hb hr hlocks rfl dX4_of_48
  · refine lv_tableIn (off := 45) (tgt := 49) hx hb dX4_of_4 (by decide) (by decide) rfl (by decide) ?_
    refine lv_aload_n hx hb dX4_of_49 rfl (lv_at hl 0 rfl) ?_
    refine va_get (ci := 4) (v := .int (sc_room sc)) (C := RX4) (T := TX4) (N := 9) hx hb hts in_X4 hown hK hP 0 rfl rfl 1 (by decide) (hts _ q295) (fun _ h9 => h9) rfl dX4_of_50 ?_
    exact retR_i hx hb hr hlocks rfl dX4_of_53
  · refine lv_tableIn (off := 50) (tgt := 54) hx hb dX4_of_4 (by decide) (by decide) rfl (by decide) ?_
    refine lv_aload_n hx hb dX4_of_54 rfl (lv_at hl 0 rfl) ?_
    refine va_get (ci := 4) (v := .int (sc_wish sc)) (C := RX4) (T := TX4) (N := 9) hx hb hts in_X4 hown hK hP 0 rfl rfl 2 (by decide) (hts _ q297) (fun _ h9 => h9) rfl dX4_of_55 ?_
    exact retR_i hx hb hr hlocks rfl dX4_of_58
  · refine lv_tableIn (off := 55) (tgt := 59) hx hb dX4_of_4 (by decide) (by decide) rfl (by decide) ?_
    refine lv_aload_n hx hb dX4_of_59 rfl (lv_at hl 0 rfl) ?_
    refine va_get (ci := 4) (v := .int (sc_doubted sc)) (C := RX4) (T := TX4) (N := 9) hx hb hts in_X4 hown hK hP 0 rfl rfl 3 (by decide) (hts _ q299) (fun _ h9 => h9) rfl dX4_of_60 ?_
    exact retR_i hx hb hr hlocks rfl dX4_of_63
  · refine lv_tableIn (off := 60) (tgt := 64) hx hb dX4_of_4 (by decide) (by decide) rfl (by decide) ?_
    refine lv_aload_n hx hb dX4_of_64 rfl (lv_at hl 0 rfl) ?_
    refine va_get (ci := 4) (v := .int (sc_towers sc)) (C := RX4) (T := TX4) (N := 9) hx hb hts in_X4 hown hK hP 0 rfl rfl 4 (by decide) (hts _ q301) (fun _ h9 => h9) rfl dX4_of_65 ?_
    exact retR_i hx hb hr hlocks rfl dX4_of_68
  · refine lv_tableIn (off := 65) (tgt := 69) hx hb dX4_of_4 (by decide) (by decide) rfl (by decide) ?_
    refine lv_aload_n hx hb dX4_of_69 rfl (lv_at hl 0 rfl) ?_
    refine va_get (ci := 4) (v := .int (sc_holes sc)) (C := RX4) (T := TX4) (N := 9) hx hb hts in_X4 hown hK hP 0 rfl rfl 5 (by decide) (hts _ q303) (fun _ h9 => h9) rfl dX4_of_70 ?_
    exact retR_i hx hb hr hlocks rfl dX4_of_73
  · refine lv_tableOut (tgt := 74) hx hb dX4_of_4 (Or.inr (by decide)) (by decide) ?_
    refine lv_aload_n hx hb dX4_of_74 rfl (lv_at hl 0 rfl) ?_
    refine va_get (ci := 4) (v := .int (sc_week sc)) (C := RX4) (T := TX4) (N := 9) hx hb hts in_X4 hown hK hP 0 rfl rfl 6 (by decide) (hts _ q305) (fun _ h9 => h9) rfl dX4_of_75 ?_
    exact retR_i hx hb hr hlocks rfl dX4_of_78
set_option maxRecDepth 100000 in
theorem mtX14_in (l : Launch) (D : va_G) (k : Nat → ClassId) (Z : zZ) (hOK : zOK D zCl (zTys k) Z) (asc : Nat → Nat) (P : va_W) (sc : Sc) (aF : Nat → Nat) (hFa : zFa Z aF) (q : Nat) (g : Sc → Int32) (hg : prAt aF P q g) : CtR l yX14_in cX14_in 2 (some .int) (rLw 2 60) Z D zCl (cS k asc sc ++ P) [.ref q, .ref (asc 0)] (some (.int (g sc))) := by
  refine CtR.of (by decide) (Nat.le_of_ble_eq_true rfl) ?_
  intro p e9 s m args below meth c hE hP hz ls hl
  obtain ⟨hx, hb, hr, hml, hown, hts, hlocks, hname⟩ := hE
  have hown : s.vm.findClass RX14 = some m.cls := hown
  have hK := hOK.1 _ _ _ hz
  have hN := hOK.2.1 _ _ _ hz
  have hl : lv_has ls 2 [(0, .ref q), (1, .ref (asc 0))] := hl
  rcases hg with ⟨n, h1, rfl⟩ | ⟨i, n, hi, h1, rfl⟩
  · obtain ⟨j, hj⟩ := zin (k := k) (asc := asc) (sc := sc) h1
    refine lv_aload_n hx hb dX14_in_0 rfl (lv_at hl 0 rfl) ?_
    refine va_get (ci := 13) (v := .null) (C := RX14) (T := TX14) (N := 2) hx hb hts in_X14 hown hK hP j hj rfl 1 (by decide) (hts _ q1418) (fun _ h9 => h9) rfl dX14_in_1 ?_
    refine lv_ifnonnullN hx hb dX14_in_4 ?_
    refine lv_aload_n hx hb dX14_in_7 rfl (lv_at hl 0 rfl) ?_
    refine va_get (ci := 13) (v := .int n) (C := RX14) (T := TX14) (N := 2) hx hb hts in_X14 hown hK hP j hj rfl 0 (by decide) (hts _ q1417) (fun _ h9 => h9) rfl dX14_in_8 ?_
    refine lv_goto (tgt := 22) hx hb dX14_in_11 (by decide) ?_
    exact retR_i hx hb hr hlocks rfl dX14_in_22
  · obtain ⟨j, hj⟩ := zin (k := k) (asc := asc) (sc := sc) h1
    refine lv_aload_n hx hb dX14_in_0 rfl (lv_at hl 0 rfl) ?_
    refine va_get (ci := 13) (v := .ref (aF i)) (C := RX14) (T := TX14) (N := 2) hx hb hts in_X14 hown hK hP j hj rfl 1 (by decide) (hts _ q1418) (fun _ h9 => h9) rfl dX14_in_1 ?_
    refine lv_ifnonnull (tgt := 14) hx hb dX14_in_4 (by decide) ?_
    refine lv_aload_n hx hb dX14_in_14 rfl (lv_at hl 1 rfl) ?_
    refine lv_aload_n hx hb dX14_in_15 rfl (lv_at hl 0 rfl) ?_
    refine va_get (ci := 13) (v := .ref (aF i)) (C := RX14) (T := TX14) (N := 2) hx hb hts in_X14 hown hK hP j hj rfl 1 (by decide) (hts _ q1418) (fun _ h9 => h9) rfl dX14_in_16 ?_
    refine cRV (As := [.ref (aF i)]) (ci := 4) ⟨hx, hb, hml, hown, hts⟩ hOK hz va_S.rf hP (mtX4_of l D k Z hOK asc P sc aF hFa i hi) (kX4_of hts q510 rfl rfl ⟨Nat.le_of_ble_eq_true rfl, Nat.le_of_ble_eq_true rfl⟩) 0 rfl rfl rfl hl.1 rfl (lv_room (Nat.le_of_ble_eq_true rfl)) ⟨Nat.le_of_ble_eq_true rfl, Nat.le_of_ble_eq_true rfl⟩ dX14_in_19 ?_
    exact retR_i hx hb hr hlocks rfl dX14_in_22
section ZL
variable {p : Program} {l : Launch} {e : Env} {R : Room} {s : State} {m : MethodId} {args : Array Value} {below : List Frame} {meth : Method} {c : Code} {H : Heap} {locs : List Loc} {cells slots : Nat} {Q : State → Prop}
variable {pc : Nat} {ls : Array Slot} {rest : List Value} {D : va_G} {k : Nat → ClassId} {Z : zZ} {A : Nat → Prop} {ws P : va_W} {cc : ByteArray} {nL index : Nat} {own : String} {e0 q : Nat} {els : List Nat}
theorem liAt.len (h : liAt k e0 P q els) : els.length < 2 ^ 26 := by
  rcases h with ⟨h1, -⟩ | ⟨-, -, cap, -, -, h3, h4⟩
  · subst h1; decide
  · omega
theorem zliSize (S : CallFix p m c cc nL s args lw_all own) (hOK : zOK D zCl (zTys k) Z) (hz : Z A s s.heap) (hS : va_S A s.heap H locs) (hP : va_P D zCl ws H) (hs : ∀ x ∈ P, x ∈ ws) (hli : liAt k e0 P q els) (hlk : Cond.methodLink own index yJ2_size ∈ lw_all) (hR : 1 ≤ R.frames ∧ 20 ≤ R.locals) (hl : ls.size = nL) (hW : 2 * (F0 m pc ls (.ref q :: rest)).monitorRoom + (rest.map fun v => v.category).sum ≤ 8) (hf : cells ≤ R.cells ∧ slots ≤ R.slots) (hdg : decode cc pc = .ok (.invokevirtual index, 3))
    (kk : W p l e R s m args below meth c H locs cells slots Q (F0 m (pc + 3) ls (.int (nI els.length) :: rest))) : W p l e R s m args below meth c H locs cells slots Q (F0 m pc ls (.ref q :: rest)) := by
  have hR2 : (rJ2_0).frames + 1 ≤ R.frames ∧ 8 + (1 + 11) + (rJ2_0).locals ≤ R.locals := hR
  have key : ∀ (e1 : Nat) (mc : Int32), lsO q e1 mc els.length ∈ P → W p l e R s m args below meth c H locs cells slots Q (F0 m pc ls (.ref q :: rest)) := by
    intro e1 mc h
    obtain ⟨j, hj⟩ := List.getElem?_of_mem (hs _ h)
    have hP1 : va_P D zCl [lsO q e1 mc els.length] H := hP.sub [j] (by simp [hj])
    exact cRV (As := []) (ci := 15) (rest := rest) S hOK hz hS hP1 (mtJ2_size l D k Z hOK q e1 mc els.length) (kJ2_size (S.2.2.2.2) hlk rfl rfl hR2) 0 rfl rfl rfl hl rfl hW hf hdg kk
  rcases hli with ⟨h1, mc, h2⟩ | ⟨e1, mc, cap, h1, h2, h3, h4⟩
  · subst h1
    exact key e0 mc h2
  · exact key e1 mc h1
theorem zliGet (S : CallFix p m c cc nL s args lw_all own) (hOK : zOK D zCl (zTys k) Z) (hz : Z A s s.heap) (hS : va_S A s.heap H locs) (hP : va_P D zCl ws H) (hs : ∀ x ∈ P, x ∈ ws) (hli : liAt k e0 P q els) {i x : Nat} (hx9 : els[i]? = some x) (hlk : Cond.methodLink own index yJ2_get ∈ lw_all) (hR : 3 ≤ R.frames ∧ 65 ≤ R.locals) (hl : ls.size = nL) (hW : 2 * (F0 m pc ls (.int (nI i) :: .ref q :: rest)).monitorRoom + (rest.map fun v => v.category).sum ≤ 8) (hf : cells ≤ R.cells ∧ slots ≤ R.slots) (hdg : decode cc pc = .ok (.invokevirtual index, 3))
    (kk : W p l e R s m args below meth c H locs cells slots Q (F0 m (pc + 3) ls (.ref x :: rest))) : W p l e R s m args below meth c H locs cells slots Q (F0 m pc ls (.int (nI i) :: .ref q :: rest)) := by
  have hR2 : (rJ2_2).frames + 1 ≤ R.frames ∧ 8 + (2 + 11) + (rJ2_2).locals ≤ R.locals := hR
  rcases hli with ⟨h1, mc, h2⟩ | ⟨e1, mc, cap, h1, h2, h3, h4⟩
  · subst h1
    exact nomatch hx9
  · obtain ⟨j, hj⟩ := List.getElem?_of_mem (hs _ h1)
    obtain ⟨j2, hj2⟩ := List.getElem?_of_mem (hs _ h2)
    have hP1 : va_P D zCl [lsO q e1 mc els.length, lsA k e1 cap els] H := hP.sub [j, j2] (by simp [hj, hj2])
    exact cRV (As := [.int (nI i)]) (ci := 15) (rest := rest) S hOK hz hS hP1 (mtJ2_get l D k Z hOK q e1 mc cap els h3 (by omega) i x hx9) (kJ2_get (S.2.2.2.2) hlk rfl rfl hR2) 0 rfl rfl rfl hl rfl hW hf hdg kk
end ZL
theorem sumV_take (gs : List (Sc → Int32)) (sc : Sc) (i : Nat) (g : Sc → Int32) (h : gs[i]? = some g) : sumV (gs.take (i + 1)) sc = sumV (gs.take i) sc + g sc := by
  unfold sumV
  rw [List.take_add_one, h, List.foldl_append]
  rfl
theorem pw.get {α : Type} {R : Nat → α → Prop} {els : List Nat} {gs : List α} (h : pw R els gs) {i : Nat} (hi : i < els.length) : ∃ x g, els[i]? = some x ∧ gs[i]? = some g ∧ R x g := by
  have h1 : els[i]? = some els[i] := List.getElem?_eq_getElem hi
  have h2 : gs[i]? = some (gs[i]'(by rw [h.1]; exact hi)) := List.getElem?_eq_getElem _
  exact ⟨_, _, h1, h2, h.2 i _ _ h1 h2⟩
theorem prAt.mem {k : Nat → ClassId} {asc : Nat → Nat} {sc : Sc} {aF : Nat → Nat} {P : va_W} {q : Nat} {g : Sc → Int32} (h : prAt aF P q g) : ∃ (j : Nat) (fs : List Value), (cS k asc sc ++ P)[j]? = some (q, .inr (13, fs)) := by
  rcases h with ⟨n, h1, -⟩ | ⟨i, n, -, h1, -⟩
  · obtain ⟨j, hj⟩ := zin (k := k) (asc := asc) (sc := sc) h1
    exact ⟨j, _, hj⟩
  · obtain ⟨j, hj⟩ := zin (k := k) (asc := asc) (sc := sc) h1
    exact ⟨j, _, hj⟩
theorem lnAt.mem {k : Nat → ClassId} {asc : Nat → Nat} {sc : Sc} {e0 : Nat} {aF : Nat → Nat} {P : va_W} {d q : Nat} {g : Sc → Int32} (h : lnAt k e0 aF P d q g) : ∃ (j : Nat) (fs : List Value), (cS k asc sc ++ P)[j]? = some (q, .inr (8, fs)) := by
  obtain ⟨b, n, ⟨h1, -⟩ | ⟨w, g, h1, -⟩⟩ := h
  · obtain ⟨j, hj⟩ := zin (k := k) (asc := asc) (sc := sc) h1
    exact ⟨j, _, hj⟩
  · obtain ⟨j, hj⟩ := zin (k := k) (asc := asc) (sc := sc) h1
    exact ⟨j, _, hj⟩
set_option maxRecDepth 100000 in
theorem mtX13_in (l : Launch) (D : va_G) (k : Nat → ClassId) (Z : zZ) (hOK : zOK D zCl (zTys k) Z) (asc : Nat → Nat) (P : va_W) (sc : Sc) (e0 : Nat) (aF : Nat → Nat) (hFa : zFa Z aF) (q : Nat) (g9 : Sc → Int32) (hg : smAt k e0 aF P q g9) : CtR l yX13_in cX13_in 4 (some .int) (rLw 3 90) Z D zCl (cS k asc sc ++ P) [.ref q, .ref (asc 0)] (some (.int (g9 sc))) := by
  refine CtR.of (by decide) (Nat.le_of_ble_eq_true rfl) ?_
  intro p e9 s m args below meth c hE hP hz ls hl
  obtain ⟨hx, hb, hr, hml, hown, hts, hlocks, hname⟩ := hE
  have hown : s.vm.findClass RX13 = some m.cls := hown
  have hK := hOK.1 _ _ _ hz
  have hN := hOK.2.1 _ _ _ hz
  have hl : lv_has ls 4 [(0, .ref q), (1, .ref (asc 0))] := hl
  obtain ⟨ql, els, gs, hq, hli, hpw, rfl⟩ := hg
  obtain ⟨j, hj⟩ := zin (k := k) (asc := asc) (sc := sc) hq
  refine lv_iconst (v := nI 0) hx hb dX13_in_0 (by decide) ?_
  refine lv_istore_n (lv' := [(2, .int (nI 0)), (0, .ref q), (1, .ref (asc 0))]) hx hb dX13_in_1 rfl hl (by decide) rfl (fun ls hl => ?_)
  refine lv_iconst (v := nI 0) hx hb dX13_in_2 (by decide) ?_
  refine lv_istore_n (lv' := [(3, .int (nI 0)), (2, .int (nI 0)), (0, .ref q), (1, .ref (asc 0))]) hx hb dX13_in_3 rfl hl (by decide) rfl (fun ls hl => ?_)
  have key : ∀ (n i : Nat), i + n = els.length → ∀ ls : Array Slot, lv_has ls 4 [(0, .ref q), (1, .ref (asc 0)), (2, .int (sumV (gs.take i) sc)), (3, .int (nI i))] → W p l e9 (rLw 3 90) s m args below meth c s.heap [] 0 0 (MQ below (QRr (some (.int (sumV gs sc)))) args s 0 0 (fun _ => False)) (F0 m 4 ls []) := by
    intro n
    induction n with
    | zero =>
      intro i hi ls hl
      have ei : i = els.length := by omega
      subst ei
      refine lv_iload_n hx hb dX13_in_4 rfl (lv_at hl 3 rfl) ?_
      refine lv_aload_n hx hb dX13_in_5 rfl (lv_at hl 0 rfl) ?_
      refine va_get (ci := 12) (v := .ref ql) (C := RX13) (T := TX13) (N := 1) hx hb hts in_X13 hown hK hP j hj rfl 0 (by decide) (hts _ q1398) (fun _ h9 => h9) rfl dX13_in_6 ?_
      refine zliSize ⟨hx, hb, hml, hown, hts⟩ hOK hz va_S.rf hP (fun x h => List.mem_append_right _ h) hli q503 ⟨Nat.le_of_ble_eq_true rfl, Nat.le_of_ble_eq_true rfl⟩ hl.1 (lv_room (Nat.le_of_ble_eq_true rfl)) ⟨Nat.le_of_ble_eq_true rfl, Nat.le_of_ble_eq_true rfl⟩ dX13_in_9 ?_
      refine lv_icmp_ge (tgt := 39) hx hb dX13_in_12 (by decide) (fun _ => ?_) (fun c1 => absurd (Int32.le_refl _) c1)
      refine lv_iload_n hx hb dX13_in_39 rfl (lv_at hl 2 rfl) ?_
      exact retR_i hx hb hr hlocks (by rw [List.take_of_length_le (by rw [hpw.1]; exact Nat.le_refl _)]) dX13_in_40
    | succ n ih =>
      intro i hi ls hl
      obtain ⟨x, g, hx1, hg1, hxg⟩ := hpw.get (show i < els.length by omega)
      have hlen := hli.len
      refine lv_iload_n hx hb dX13_in_4 rfl (lv_at hl 3 rfl) ?_
      refine lv_aload_n hx hb dX13_in_5 rfl (lv_at hl 0 rfl) ?_
      refine va_get (ci := 12) (v := .ref ql) (C := RX13) (T := TX13) (N := 1) hx hb hts in_X13 hown hK hP j hj rfl 0 (by decide) (hts _ q1398) (fun _ h9 => h9) rfl dX13_in_6 ?_
      refine zliSize ⟨hx, hb, hml, hown, hts⟩ hOK hz va_S.rf hP (fun x h => List.mem_append_right _ h) hli q503 ⟨Nat.le_of_ble_eq_true rfl, Nat.le_of_ble_eq_true rfl⟩ hl.1 (lv_room (Nat.le_of_ble_eq_true rfl)) ⟨Nat.le_of_ble_eq_true rfl, Nat.le_of_ble_eq_true rfl⟩ dX13_in_9 ?_
      refine lv_icmp_ge (tgt := 39) hx hb dX13_in_12 (by decide) (fun c1 => absurd c1 (nI_ge (by omega) (by omega))) (fun _ => ?_)
      refine lv_iload_n hx hb dX13_in_15 rfl (lv_at hl 2 rfl) ?_
      refine lv_aload_n hx hb dX13_in_16 rfl (lv_at hl 0 rfl) ?_
      refine va_get (ci := 12) (v := .ref ql) (C := RX13) (T := TX13) (N := 1) hx hb hts in_X13 hown hK hP j hj rfl 0 (by decide) (hts _ q1398) (fun _ h9 => h9) rfl dX13_in_17 ?_
      refine lv_iload_n hx hb dX13_in_20 rfl (lv_at hl 3 rfl) ?_
      refine zliGet ⟨hx, hb, hml, hown, hts⟩ hOK hz va_S.rf hP (fun x h => List.mem_append_right _ h) hli hx1 q504 ⟨Nat.le_of_ble_eq_true rfl, Nat.le_of_ble_eq_true rfl⟩ hl.1 (lv_room (Nat.le_of_ble_eq_true rfl)) ⟨Nat.le_of_ble_eq_true rfl, Nat.le_of_ble_eq_true rfl⟩ dX13_in_21 ?_
      obtain ⟨jx, fx, hjx⟩ : ∃ (jx : Nat) (fx : List Value), (cS k asc sc ++ P)[jx]? = some (x, .inr (13, fx)) := hxg.mem
      refine va_castS (cC := D.1 13) hx hb hown (hts _ q505) (hK.1 13 _ rfl).2 (va_recv (q := zCl[13]) hK hP rfl hjx) dX13_in_24 ?_
      refine lv_aload_n hx hb dX13_in_27 rfl (lv_at hl 1 rfl) ?_
      refine cRV (As := [.ref (asc 0)]) (ci := 13) ⟨hx, hb, hml, hown, hts⟩ hOK hz va_S.rf hP (mtX14_in l D k Z hOK asc P sc aF hFa x g hxg) (kX14_in hts q506 rfl rfl ⟨Nat.le_of_ble_eq_true rfl, Nat.le_of_ble_eq_true rfl⟩) jx hjx rfl rfl hl.1 rfl (lv_room (Nat.le_of_ble_eq_true rfl)) ⟨Nat.le_of_ble_eq_true rfl, Nat.le_of_ble_eq_true rfl⟩ dX13_in_28 ?_
      refine lv_iadd hx hb dX13_in_31 ?_
      refine lv_istore_n (lv' := [(2, .int (sumV (gs.take i) sc + g sc)), (0, .ref q), (1, .ref (asc 0)), (3, .int (nI i))]) hx hb dX13_in_32 rfl hl (by decide) rfl (fun ls hl => ?_)
      refine lv_iinc (v := nI i + 1) (lv' := [(3, .int (nI i + 1)), (2, .int (sumV (gs.take i) sc + g sc)), (0, .ref q), (1, .ref (asc 0))]) hx hb dX13_in_33 hl (k := 3) rfl rfl (by decide) rfl (fun ls hl => ?_)
      rw [← nI_succ, ← sumV_take gs sc i g hg1] at hl
      refine lv_goto (tgt := 4) hx hb dX13_in_36 (by decide) ?_
      exact ih (i + 1) (by omega) ls (lv_sub hl [2, 3, 1, 0] rfl)
  exact key els.length 0 (by omega) ls (lv_sub hl [2, 3, 1, 0] rfl)
def rHo (d : Nat) : Room := rLw (5 + d) (120 + 40 * d)
/-- a condition answers: by its class -/
def cnHolds (l : Launch) (D : va_G) (k : Nat → ClassId) (Z : zZ) (asc : Nat → Nat) (P : va_W) (sc : Sc) (rm : Room) (q : Nat) (b : Bool) : Prop :=
  ((∃ fs, (q, Sum.inr (11, fs)) ∈ P) ∧ CtR l yX12_holds cX12_holds 2 (some .boolean) rm Z D zCl (cS k asc sc ++ P) [.ref q, .ref (asc 0)] (some (.int (bz b)))) ∨
  ((∃ fs, (q, Sum.inr (14, fs)) ∈ P) ∧ CtR l yX16_holds cX16_holds 2 (some .boolean) rm Z D zCl (cS k asc sc ++ P) [.ref q, .ref (asc 0)] (some (.int (bz b)))) ∨
  ((∃ fs, (q, Sum.inr (10, fs)) ∈ P) ∧ CtR l yX11_holds cX11_holds 2 (some .boolean) rm Z D zCl (cS k asc sc ++ P) [.ref q, .ref (asc 0)] (some (.int (bz b)))) ∨
  ((∃ fs, (q, Sum.inr (9, fs)) ∈ P) ∧ CtR l yX10_holds cX10_holds 3 (some .boolean) rm Z D zCl (cS k asc sc ++ P) [.ref q, .ref (asc 0)] (some (.int (bz b))))
section ZH
variable {p : Program} {l : Launch} {e : Env} {R : Room} {s : State} {m : MethodId} {args : Array Value} {below : List Frame} {meth : Method} {c : Code} {H : Heap} {locs : List Loc} {cells slots : Nat} {Q : State → Prop}
variable {pc : Nat} {ls : Array Slot} {rest : List Value} {D : va_G} {k : Nat → ClassId} {Z : zZ} {A : Nat → Prop} {P : va_W} {cc : ByteArray} {nL index count : Nat} {own : String} {q : Nat} {asc : Nat → Nat} {sc : Sc} {rm : Room} {b : Bool}
theorem cHolds (hlk : Cond.methodLink own index yCond ∈ lw_all) (S : CallFix p m c cc nL s args lw_all own) (hOK : zOK D zCl (zTys k) Z) (hz : Z A s s.heap) (hFw : zFw Z) (hS : va_S A s.heap H locs) (hP : va_P D zCl (cS k asc sc ++ P) H) (h : cnHolds l D k Z asc P sc rm q b) (hrm : rm.cells = 0 ∧ rm.slots = 0) (hR : rm.frames + 1 ≤ R.frames ∧ 8 + (3 + 11) + rm.locals ≤ R.locals) (hl : ls.size = nL) (hf : cells ≤ R.cells ∧ slots ≤ R.slots)
    (hW : 2 * (F0 m pc ls [.ref (asc 0), .ref q]).monitorRoom + (([] : List Value).map fun v => v.category).sum ≤ 8) (hdg : decode cc pc = .ok (.invokeinterface index count, 5)) (kk : W p l e R s m args below meth c H locs cells slots Q (F0 m (pc + 5) ls [.int (bz b)])) : W p l e R s m args below meth c H locs cells slots Q (F0 m pc ls [.ref (asc 0), .ref q]) := by
  have hF := hFw _ _ _ hz
  have hts := S.2.2.2.2
  rcases h with ⟨⟨fs, hm⟩, hM⟩ | ⟨⟨fs, hm⟩, hM⟩ | ⟨⟨fs, hm⟩, hM⟩ | ⟨⟨fs, hm⟩, hM⟩
  · obtain ⟨j, hj⟩ := zin (k := k) (asc := asc) (sc := sc) hm
    exact cRF (As := [.ref (asc 0)]) (ci := 11) (rest := []) S hOK hz hS hP hM (va_cwF 1 hts (lw_F hlk q540 q542 q138 q544) rfl hrm.1 hrm.2 hF.2.2.1 (by decide +kernel) ⟨hR.1, by have := hR.2; omega⟩) j hj rfl rfl hl rfl hW hf hdg kk
  · obtain ⟨j, hj⟩ := zin (k := k) (asc := asc) (sc := sc) hm
    exact cRF (As := [.ref (asc 0)]) (ci := 14) (rest := []) S hOK hz hS hP hM (va_cwF 1 hts (lw_F hlk q494 q496 q143 q498) rfl hrm.1 hrm.2 hF.2.2.2 (by decide +kernel) ⟨hR.1, by have := hR.2; omega⟩) j hj rfl rfl hl rfl hW hf hdg kk
  · obtain ⟨j, hj⟩ := zin (k := k) (asc := asc) (sc := sc) hm
    exact cRF (As := [.ref (asc 0)]) (ci := 10) (rest := []) S hOK hz hS hP hM (va_cwF 1 hts (lw_F hlk q521 q523 q137 q525) rfl hrm.1 hrm.2 hF.2.1 (by decide +kernel) ⟨hR.1, by have := hR.2; omega⟩) j hj rfl rfl hl rfl hW hf hdg kk
  · obtain ⟨j, hj⟩ := zin (k := k) (asc := asc) (sc := sc) hm
    exact cRF (As := [.ref (asc 0)]) (ci := 9) (rest := []) S hOK hz hS hP hM (va_cwF 1 hts (lw_F hlk q529 q531 q136 q533) rfl hrm.1 hrm.2 hF.1 (by decide +kernel) ⟨hR.1, by have := hR.2; omega⟩) j hj rfl rfl hl rfl hW hf hdg kk
theorem cCast (hlk : Cond.classLink own index "SaturdayKeep$Cond" ∈ lw_all) (S : CallFix p m c cc nL s args lw_all own) (hK : va_K D zCl (zTys k) s) (hN : ∀ w ∈ zN, va_Nw w s) (hP : va_P D zCl (cS k asc sc ++ P) H) (h : cnHolds l D k Z asc P sc rm q b) (hdg : decode cc pc = .ok (.checkcast index, 3)) (kk : W p l e R s m args below meth c H locs cells slots Q (F0 m (pc + 3) ls (.ref q :: rest))) : W p l e R s m args below meth c H locs cells slots Q (F0 m pc ls (.ref q :: rest)) := by
  have hts := S.2.2.2.2
  rcases h with ⟨⟨fs, hm⟩, -⟩ | ⟨⟨fs, hm⟩, -⟩ | ⟨⟨fs, hm⟩, -⟩ | ⟨⟨fs, hm⟩, -⟩
  · obtain ⟨j, hj⟩ := zin (k := k) (asc := asc) (sc := sc) hm
    exact va_castY (C := RX12) S.1 S.2.1 S.2.2.2.1 (hts _ hlk) (hN _ (zN_of q539 rfl)) (va_recv (q := zCl[11]) hK hP rfl hj) hdg kk
  · obtain ⟨j, hj⟩ := zin (k := k) (asc := asc) (sc := sc) hm
    exact va_castY (C := RX16) S.1 S.2.1 S.2.2.2.1 (hts _ hlk) (hN _ (zN_of q493 rfl)) (va_recv (q := zCl[14]) hK hP rfl hj) hdg kk
  · obtain ⟨j, hj⟩ := zin (k := k) (asc := asc) (sc := sc) hm
    exact va_castY (C := RX11) S.1 S.2.1 S.2.2.2.1 (hts _ hlk) (hN _ (zN_of q520 rfl)) (va_recv (q := zCl[10]) hK hP rfl hj) hdg kk
  · obtain ⟨j, hj⟩ := zin (k := k) (asc := asc) (sc := sc) hm
    exact va_castY (C := RX10) S.1 S.2.1 S.2.2.2.1 (hts _ hlk) (hN _ (zN_of q528 rfl)) (va_recv (q := zCl[9]) hK hP rfl hj) hdg kk
end ZH
theorem smAt.mem {k : Nat → ClassId} {asc : Nat → Nat} {sc : Sc} {e0 : Nat} {aF : Nat → Nat} {P : va_W} {q : Nat} {g : Sc → Int32} (h : smAt k e0 aF P q g) : ∃ (j : Nat) (fs : List Value), (cS k asc sc ++ P)[j]? = some (q, .inr (12, fs)) := by
  obtain ⟨ql, els, gs, h1, -⟩ := h
  obtain ⟨j, hj⟩ := zin (k := k) (asc := asc) (sc := sc) h1
  exact ⟨j, _, hj⟩
set_option maxRecDepth 100000 in
theorem mtX12_holds (l : Launch) (D : va_G) (k : Nat → ClassId) (Z : zZ) (hOK : zOK D zCl (zTys k) Z) (asc : Nat → Nat) (P : va_W) (sc : Sc) (d q : Nat) (b : Bool) (hm : (q, Sum.inr (11, [.int (bz b)])) ∈ P) : CtR l yX12_holds cX12_holds 2 (some .boolean) (rHo d) Z D zCl (cS k asc sc ++ P) [.ref q, .ref (asc 0)] (some (.int (bz (if b = true then sc_key sc else sc_eve sc)))) := by
  refine CtR.of (by decide) (Nat.le_of_ble_eq_true rfl) ?_
  intro p e9 s m args below meth c hE hP hz ls hl
  obtain ⟨hx, hb, hr, hml, hown, hts, hlocks, hname⟩ := hE
  have hown : s.vm.findClass RX12 = some m.cls := hown
  have hK := hOK.1 _ _ _ hz
  have hN := hOK.2.1 _ _ _ hz
  have hl : lv_has ls 2 [(0, .ref q), (1, .ref (asc 0))] := hl
  obtain ⟨j, hj⟩ := zin (k := k) (asc := asc) (sc := sc) hm
  refine lv_aload_n hx hb dX12_holds_0 rfl (lv_at hl 0 rfl) ?_
  refine va_get (ci := 11) (v := .int (bz b)) (C := RX12) (T := TX12) (N := 1) hx hb hts in_X12 hown hK hP j hj rfl 0 (by decide) (hts _ q1381) (fun _ h9 => h9) rfl dX12_holds_1 ?_
  cases b
  · refine lv_if_eq (tgt := 14) hx hb dX12_holds_4 (by decide) (fun _ => ?_) (fun c1 => absurd rfl c1)
    refine lv_aload_n hx hb dX12_holds_14 rfl (lv_at hl 1 rfl) ?_
    refine va_getN (ci := 4) (v := .int (bz (sc_eve sc))) (C := RX4) (T := TX4) (N := 9) hx hb hts in_X4 hown hK hP 0 rfl rfl 8 (by decide) (va_Nw.use rfl (hN _ (zN_of q309 rfl))) (fun _ h9 => h9) rfl dX12_holds_15 ?_
    exact retR_z (v := sc_eve sc) hx hb hr hlocks rfl dX12_holds_18
  · refine lv_if_eq (tgt := 14) hx hb dX12_holds_4 (by decide) (fun c1 => absurd c1 (by decide)) (fun _ => ?_)
    refine lv_aload_n hx hb dX12_holds_7 rfl (lv_at hl 1 rfl) ?_
    refine va_getN (ci := 4) (v := .int (bz (sc_key sc))) (C := RX4) (T := TX4) (N := 9) hx hb hts in_X4 hown hK hP 0 rfl rfl 7 (by decide) (va_Nw.use rfl (hN _ (zN_of q307 rfl))) (fun _ h9 => h9) rfl dX12_holds_8 ?_
    refine lv_goto (tgt := 18) hx hb dX12_holds_11 (by decide) ?_
    exact retR_z (v := sc_key sc) hx hb hr hlocks rfl dX12_holds_18
set_option maxRecDepth 100000 in
theorem mtX16_holds (l : Launch) (D : va_G) (k : Nat → ClassId) (Z : zZ) (hOK : zOK D zCl (zTys k) Z) (asc : Nat → Nat) (P : va_W) (sc : Sc) (d : Nat) (e0 : Nat) (aF : Nat → Nat) (hFa : zFa Z aF) (q qa qb : Nat) (ga gb : Sc → Int32) (hm : (q, Sum.inr (14, [.ref qa, .ref qb])) ∈ P) (ha : smAt k e0 aF P qa ga) (hb9 : smAt k e0 aF P qb gb) : CtR l yX16_holds cX16_holds 2 (some .boolean) (rHo d) Z D zCl (cS k asc sc ++ P) [.ref q, .ref (asc 0)] (some (.int (bz (decide (ga sc < gb sc))))) := by
  refine CtR.of (by decide) (Nat.le_of_ble_eq_true rfl) ?_
  intro p e9 s m args below meth c hE hP hz ls hl
  obtain ⟨hx, hb, hr, hml, hown, hts, hlocks, hname⟩ := hE
  have hown : s.vm.findClass RX16 = some m.cls := hown
  have hK := hOK.1 _ _ _ hz
  have hN := hOK.2.1 _ _ _ hz
  have hl : lv_has ls 2 [(0, .ref q), (1, .ref (asc 0))] := hl
  obtain ⟨j, hj⟩ := zin (k := k) (asc := asc) (sc := sc) hm
  obtain ⟨jqa, fa, hjqa⟩ := ha.mem (asc := asc) (sc := sc)
  obtain ⟨jqb, fb, hjqb⟩ := hb9.mem (asc := asc) (sc := sc)
  refine lv_aload_n hx hb dX16_holds_0 rfl (lv_at hl 0 rfl) ?_
  refine va_get (ci := 14) (v := .ref qa) (C := RX16) (T := TX16) (N := 2) hx hb hts in_X16 hown hK hP j hj rfl 0 (by decide) (hts _ q1502) (fun _ h9 => h9) rfl dX16_holds_1 ?_
  refine lv_aload_n hx hb dX16_holds_4 rfl (lv_at hl 1 rfl) ?_
  refine cRV (As := [.ref (asc 0)]) (ci := 12) (rest := []) ⟨hx, hb, hml, hown, hts⟩ hOK hz va_S.rf hP (mtX13_in l D k Z hOK asc P sc e0 aF hFa qa ga ha) (kX13_in hts q499 rfl rfl ⟨by show 4 ≤ 5 + d; omega, by show 8 + (4 + 11) + 90 ≤ 120 + 40 * d; omega⟩) jqa hjqa rfl rfl hl.1 rfl (lv_room (Nat.le_of_ble_eq_true rfl)) ⟨Nat.le_of_ble_eq_true rfl, Nat.le_of_ble_eq_true rfl⟩ dX16_holds_5 ?_
  refine lv_aload_n hx hb dX16_holds_8 rfl (lv_at hl 0 rfl) ?_
  refine va_get (ci := 14) (v := .ref qb) (C := RX16) (T := TX16) (N := 2) hx hb hts in_X16 hown hK hP j hj rfl 1 (by decide) (hts _ q1503) (fun _ h9 => h9) rfl dX16_holds_9 ?_
  refine lv_aload_n hx hb dX16_holds_12 rfl (lv_at hl 1 rfl) ?_
  refine cRV (As := [.ref (asc 0)]) (ci := 12) (rest := [.int (ga sc)]) ⟨hx, hb, hml, hown, hts⟩ hOK hz va_S.rf hP (mtX13_in l D k Z hOK asc P sc e0 aF hFa qb gb hb9) (kX13_in hts q499 rfl rfl ⟨by show 4 ≤ 5 + d; omega, by show 8 + (4 + 11) + 90 ≤ 120 + 40 * d; omega⟩) jqb hjqb rfl rfl hl.1 rfl (lv_room (Nat.le_of_ble_eq_true rfl)) ⟨Nat.le_of_ble_eq_true rfl, Nat.le_of_ble_eq_true rfl⟩ dX16_holds_13 ?_
  refine lv_icmp_ge (tgt := 23) hx hb dX16_holds_16 (by decide) (fun c1 => ?_) (fun c1 => ?_)
  · refine lv_iconst (v := (0 : Int32)) hx hb dX16_holds_23 (by decide) ?_
    exact retR_z (v := false) hx hb hr hlocks (by rw [decide_eq_false (Int32.not_lt.mpr c1)]) dX16_holds_24
  refine lv_iconst (v := (1 : Int32)) hx hb dX16_holds_19 (by decide) ?_
  refine lv_goto (tgt := 24) hx hb dX16_holds_20 (by decide) ?_
  exact retR_z (v := true) hx hb hr hlocks (by rw [decide_eq_true (Int32.not_le.mp c1)]) dX16_holds_24
set_option maxRecDepth 100000 in
theorem mtX11_holds (l : Launch) (D : va_G) (k : Nat → ClassId) (Z : zZ) (hOK : zOK D zCl (zTys k) Z) (asc : Nat → Nat) (P : va_W) (sc : Sc) (hFw : zFw Z) (d q qa : Nat) (z : Bool) (hm : (q, Sum.inr (10, [.ref qa])) ∈ P) (ih : cnHolds l D k Z asc P sc (rHo d) qa z) : CtR l yX11_holds cX11_holds 2 (some .boolean) (rHo (d + 1)) Z D zCl (cS k asc sc ++ P) [.ref q, .ref (asc 0)] (some (.int (bz (!z)))) := by
  refine CtR.of (by decide) (Nat.le_of_ble_eq_true rfl) ?_
  intro p e9 s m args below meth c hE hP hz ls hl
  obtain ⟨hx, hb, hr, hml, hown, hts, hlocks, hname⟩ := hE
  have hown : s.vm.findClass RX11 = some m.cls := hown
  have hK := hOK.1 _ _ _ hz
  have hN := hOK.2.1 _ _ _ hz
  have hl : lv_has ls 2 [(0, .ref q), (1, .ref (asc 0))] := hl
  obtain ⟨j, hj⟩ := zin (k := k) (asc := asc) (sc := sc) hm
  refine lv_aload_n hx hb dX11_holds_0 rfl (lv_at hl 0 rfl) ?_
  refine va_get (ci := 10) (v := .ref qa) (C := RX11) (T := TX11) (N := 1) hx hb hts in_X11 hown hK hP j hj rfl 0 (by decide) (hts _ q1371) (fun _ h9 => h9) rfl dX11_holds_1 ?_
  refine lv_aload_n hx hb dX11_holds_4 rfl (lv_at hl 1 rfl) ?_
  refine cHolds q527 ⟨hx, hb, hml, hown, hts⟩ hOK hz hFw va_S.rf hP ih ⟨rfl, rfl⟩ ⟨by show 5 + d + 1 ≤ 5 + (d + 1); omega, by show 8 + (3 + 11) + (120 + 40 * d) ≤ 120 + 40 * (d + 1); omega⟩ hl.1 ⟨Nat.le_of_ble_eq_true rfl, Nat.le_of_ble_eq_true rfl⟩ (lv_room (Nat.le_of_ble_eq_true rfl)) dX11_holds_5 ?_
  cases z
  · refine lv_if_ne (tgt := 17) hx hb dX11_holds_10 (by decide) (fun c1 => absurd rfl c1) (fun _ => ?_)
    refine lv_iconst (v := (1 : Int32)) hx hb dX11_holds_13 (by decide) ?_
    refine lv_goto (tgt := 18) hx hb dX11_holds_14 (by decide) ?_
    exact retR_z (v := true) hx hb hr hlocks rfl dX11_holds_18
  · refine lv_if_ne (tgt := 17) hx hb dX11_holds_10 (by decide) (fun _ => ?_) (fun c1 => absurd c1 (by decide))
    refine lv_iconst (v := (0 : Int32)) hx hb dX11_holds_17 (by decide) ?_
    exact retR_z (v := false) hx hb hr hlocks rfl dX11_holds_18
theorem rowV_all {b : Bool} {gs : List (Sc → Bool)} {sc : Sc} (h : ∀ g ∈ gs, g sc = b) : rowV b gs sc = b := by
  unfold rowV
  cases b
  · rw [if_neg (by decide), List.any_eq_false]
    intro g hg
    rw [h g hg]
    decide
  · rw [if_pos rfl, List.all_eq_true]
    exact h
theorem rowV_not {b : Bool} {gs : List (Sc → Bool)} {sc : Sc} {g : Sc → Bool} (hg : g ∈ gs) (h : g sc = !b) : rowV b gs sc = !b := by
  unfold rowV
  cases b
  · rw [if_neg (by decide)]
    exact List.any_eq_true.mpr ⟨g, hg, h⟩
  · rw [if_pos rfl]
    exact List.all_eq_false.mpr ⟨g, hg, by rw [h]; decide⟩
set_option maxRecDepth 100000 in
theorem mtX10_holds (l : Launch) (D : va_G) (k : Nat → ClassId) (Z : zZ) (hOK : zOK D zCl (zTys k) Z) (asc : Nat → Nat) (P : va_W) (sc : Sc) (e0 : Nat) (hFw : zFw Z) (d q ql : Nat) (b : Bool) (els : List Nat) (gs : List (Sc → Bool)) (hm : (q, Sum.inr (9, [.int (bz b), .ref ql])) ∈ P) (hli : liAt k e0 P ql els) (hpw : pw (fun x g => cnHolds l D k Z asc P sc (rHo d) x (g sc)) els gs) : CtR l yX10_holds cX10_holds 3 (some .boolean) (rHo (d + 1)) Z D zCl (cS k asc sc ++ P) [.ref q, .ref (asc 0)] (some (.int (bz (rowV b gs sc)))) := by
  refine CtR.of (by decide) (Nat.le_of_ble_eq_true rfl) ?_
  intro p e9 s m args below meth c hE hP hz ls hl
  obtain ⟨hx, hb, hr, hml, hown, hts, hlocks, hname⟩ := hE
  have hown : s.vm.findClass RX10 = some m.cls := hown
  have hK := hOK.1 _ _ _ hz
  have hN := hOK.2.1 _ _ _ hz
  have hl : lv_has ls 3 [(0, .ref q), (1, .ref (asc 0))] := hl
  obtain ⟨j, hj⟩ := zin (k := k) (asc := asc) (sc := sc) hm
  refine lv_iconst (v := nI 0) hx hb dX10_holds_0 (by decide) ?_
  refine lv_istore_n (lv' := [(2, .int (nI 0)), (0, .ref q), (1, .ref (asc 0))]) hx hb dX10_holds_1 rfl hl (by decide) rfl (fun ls hl => ?_)
  have key : ∀ (n i : Nat), i + n = els.length → (∀ g ∈ gs.take i, g sc = b) → ∀ ls : Array Slot, lv_has ls 3 [(0, .ref q), (1, .ref (asc 0)), (2, .int (nI i))] → W p l e9 (rHo (d + 1)) s m args below meth c s.heap [] 0 0 (MQ below (QRr (some (.int (bz (rowV b gs sc))))) args s 0 0 (fun _ => False)) (F0 m 2 ls []) := by
    intro n
    induction n with
    | zero =>
      intro i hi hall ls hl
      have ei : i = els.length := by omega
      subst ei
      refine lv_iload_n hx hb dX10_holds_2 rfl (lv_at hl 2 rfl) ?_
      refine lv_aload_n hx hb dX10_holds_3 rfl (lv_at hl 0 rfl) ?_
      refine va_get (ci := 9) (v := .ref ql) (C := RX10) (T := TX10) (N := 2) hx hb hts in_X10 hown hK hP j hj rfl 1 (by decide) (hts _ q1341) (fun _ h9 => h9) rfl dX10_holds_4 ?_
      refine zliSize ⟨hx, hb, hml, hown, hts⟩ hOK hz va_S.rf hP (fun x h => List.mem_append_right _ h) hli q534 ⟨by show 1 ≤ 5 + (d + 1); omega, by show 20 ≤ 120 + 40 * (d + 1); omega⟩ hl.1 (lv_room (Nat.le_of_ble_eq_true rfl)) ⟨Nat.le_of_ble_eq_true rfl, Nat.le_of_ble_eq_true rfl⟩ dX10_holds_7 ?_
      refine lv_icmp_ge (tgt := 56) hx hb dX10_holds_10 (by decide) (fun _ => ?_) (fun c1 => absurd (Int32.le_refl _) c1)
      refine lv_aload_n hx hb dX10_holds_56 rfl (lv_at hl 0 rfl) ?_
      refine va_get (ci := 9) (v := .int (bz b)) (C := RX10) (T := TX10) (N := 2) hx hb hts in_X10 hown hK hP j hj rfl 0 (by decide) (hts _ q1340) (fun _ h9 => h9) rfl dX10_holds_57 ?_
      rw [List.take_of_length_le (by rw [hpw.1]; exact Nat.le_refl _)] at hall
      exact retR_z (v := b) hx hb hr hlocks (by rw [rowV_all hall]) dX10_holds_60
    | succ n ih =>
      intro i hi hall ls hl
      obtain ⟨x, g, hx1, hg1, hxg⟩ := hpw.get (show i < els.length by omega)
      have hlen := hli.len
      refine lv_iload_n hx hb dX10_holds_2 rfl (lv_at hl 2 rfl) ?_
      refine lv_aload_n hx hb dX10_holds_3 rfl (lv_at hl 0 rfl) ?_
      refine va_get (ci := 9) (v := .ref ql) (C := RX10) (T := TX10) (N := 2) hx hb hts in_X10 hown hK hP j hj rfl 1 (by decide) (hts _ q1341) (fun _ h9 => h9) rfl dX10_holds_4 ?_
      refine zliSize ⟨hx, hb, hml, hown, hts⟩ hOK hz va_S.rf hP (fun x h => List.mem_append_right _ h) hli q534 ⟨by show 1 ≤ 5 + (d + 1); omega, by show 20 ≤ 120 + 40 * (d + 1); omega⟩ hl.1 (lv_room (Nat.le_of_ble_eq_true rfl)) ⟨Nat.le_of_ble_eq_true rfl, Nat.le_of_ble_eq_true rfl⟩ dX10_holds_7 ?_
      refine lv_icmp_ge (tgt := 56) hx hb dX10_holds_10 (by decide) (fun c1 => absurd c1 (nI_ge (by omega) (by omega))) (fun _ => ?_)
      refine lv_aload_n hx hb dX10_holds_13 rfl (lv_at hl 0 rfl) ?_
      refine va_get (ci := 9) (v := .ref ql) (C := RX10) (T := TX10) (N := 2) hx hb hts in_X10 hown hK hP j hj rfl 1 (by decide) (hts _ q1341) (fun _ h9 => h9) rfl dX10_holds_14 ?_
      refine lv_iload_n hx hb dX10_holds_17 rfl (lv_at hl 2 rfl) ?_
      refine zliGet ⟨hx, hb, hml, hown, hts⟩ hOK hz va_S.rf hP (fun x h => List.mem_append_right _ h) hli hx1 q535 ⟨by show 3 ≤ 5 + (d + 1); omega, by show 65 ≤ 120 + 40 * (d + 1); omega⟩ hl.1 (lv_room (Nat.le_of_ble_eq_true rfl)) ⟨Nat.le_of_ble_eq_true rfl, Nat.le_of_ble_eq_true rfl⟩ dX10_holds_18 ?_
      refine cCast q536 ⟨hx, hb, hml, hown, hts⟩ hK hN hP hxg dX10_holds_21 ?_
      refine lv_aload_n hx hb dX10_holds_24 rfl (lv_at hl 1 rfl) ?_
      refine cHolds q538 ⟨hx, hb, hml, hown, hts⟩ hOK hz hFw va_S.rf hP hxg ⟨rfl, rfl⟩ ⟨by show 5 + d + 1 ≤ 5 + (d + 1); omega, by show 8 + (3 + 11) + (120 + 40 * d) ≤ 120 + 40 * (d + 1); omega⟩ hl.1 ⟨Nat.le_of_ble_eq_true rfl, Nat.le_of_ble_eq_true rfl⟩ (lv_room (Nat.le_of_ble_eq_true rfl)) dX10_holds_25 ?_
      refine lv_aload_n hx hb dX10_holds_30 rfl (lv_at hl 0 rfl) ?_
      refine va_get (ci := 9) (v := .int (bz b)) (C := RX10) (T := TX10) (N := 2) hx hb hts in_X10 hown hK hP j hj rfl 0 (by decide) (hts _ q1340) (fun _ h9 => h9) rfl dX10_holds_31 ?_
      refine lv_icmp_eq (tgt := 50) hx hb dX10_holds_34 (by decide) (fun c1 => ?_) (fun c1 => ?_)
      · have eg : g sc = b := by
          cases hgs : g sc <;> cases b <;> first | rfl | (rw [hgs] at c1; exact absurd c1 (by decide))
        refine lv_iinc (v := nI i + 1) (lv' := [(2, .int (nI i + 1)), (0, .ref q), (1, .ref (asc 0))]) hx hb dX10_holds_50 hl (k := 2) rfl rfl (by decide) rfl (fun ls hl => ?_)
        rw [← nI_succ] at hl
        refine lv_goto (tgt := 2) hx hb dX10_holds_53 (by decide) ?_
        refine ih (i + 1) (by omega) (fun g9 h9 => ?_) ls (lv_sub hl [1, 2, 0] rfl)
        rw [List.take_add_one, hg1] at h9
        rcases List.mem_append.mp h9 with h9 | h9
        · exact hall g9 h9
        · rw [List.mem_singleton.mp h9]
          exact eg
      have eg : g sc = !b := by
        cases hgs : g sc <;> cases b <;> first | rfl | (rw [hgs] at c1; exact absurd rfl c1)
      have er := rowV_not (List.mem_of_getElem? hg1) eg
      refine lv_aload_n hx hb dX10_holds_37 rfl (lv_at hl 0 rfl) ?_
      refine va_get (ci := 9) (v := .int (bz b)) (C := RX10) (T := TX10) (N := 2) hx hb hts in_X10 hown hK hP j hj rfl 0 (by decide) (hts _ q1340) (fun _ h9 => h9) rfl dX10_holds_38 ?_
      cases b
      · refine lv_if_ne (tgt := 48) hx hb dX10_holds_41 (by decide) (fun c1 => absurd rfl c1) (fun _ => ?_)
        refine lv_iconst (v := (1 : Int32)) hx hb dX10_holds_44 (by decide) ?_
        refine lv_goto (tgt := 49) hx hb dX10_holds_45 (by decide) ?_
        exact retR_z (v := true) hx hb hr hlocks (by rw [er]; rfl) dX10_holds_49
      · refine lv_if_ne (tgt := 48) hx hb dX10_holds_41 (by decide) (fun _ => ?_) (fun c1 => absurd c1 (by decide))
        refine lv_iconst (v := (0 : Int32)) hx hb dX10_holds_48 (by decide) ?_
        exact retR_z (v := false) hx hb hr hlocks (by rw [er]; rfl) dX10_holds_49
  exact key els.length 0 (by omega) (fun g h => by simp at h) ls (lv_sub hl [1, 2, 0] rfl)
theorem mtHolds (l : Launch) (D : va_G) (k : Nat → ClassId) (Z : zZ) (hOK : zOK D zCl (zTys k) Z) (asc : Nat → Nat) (P : va_W) (sc : Sc) (e0 : Nat) (aF : Nat → Nat) (hFa : zFa Z aF) (hFw : zFw Z) : ∀ (d q : Nat) (f : Sc → Bool), cnAt k e0 aF P d q f → cnHolds l D k Z asc P sc (rHo d) q (f sc) := by
  intro d
  induction d with
  | zero => exact fun _ _ h => h.elim
  | succ d ih =>
    intro q f h
    rcases h with ⟨b, h1, rfl⟩ | ⟨qa, qb, ga, gb, h1, h2, h3, rfl⟩ | ⟨qa, g, h1, h2, rfl⟩ | ⟨b, ql, els, gs, h1, h2, h3, rfl⟩
    · exact Or.inl ⟨⟨_, h1⟩, mtX12_holds l D k Z hOK asc P sc (d + 1) q b h1⟩
    · exact Or.inr (Or.inl ⟨⟨_, h1⟩, mtX16_holds l D k Z hOK asc P sc (d + 1) e0 aF hFa q qa qb ga gb h1 h2 h3⟩)
    · exact Or.inr (Or.inr (Or.inl ⟨⟨_, h1⟩, mtX11_holds l D k Z hOK asc P sc hFw d q qa (g sc) h1 (ih qa g h2)⟩))
    · exact Or.inr (Or.inr (Or.inr ⟨⟨_, h1⟩, mtX10_holds l D k Z hOK asc P sc e0 hFw d q ql b els gs h1 h2 ⟨h3.1, fun i x g a c => ih x g (h3.2 i x g a c)⟩⟩))
def rBy (d : Nat) : Room := rLw (6 + d) (150 + 40 * d)
def rTu (d : Nat) : Room := rLw (7 + d) (180 + 40 * d)
set_option maxRecDepth 100000 in
theorem mtX9_by (l : Launch) (D : va_G) (k : Nat → ClassId) (Z : zZ) (hOK : zOK D zCl (zTys k) Z) (asc : Nat → Nat) (P : va_W) (sc : Sc) (e0 : Nat) (aF : Nat → Nat) (hFa : zFa Z aF) (hFw : zFw Z) (d q : Nat) (f : Sc → Int32) (hf9 : lnAt k e0 aF P d q f) : CtR l yX9_by cX9_by 2 (some .int) (rBy d) Z D zCl (cS k asc sc ++ P) [.ref q, .ref (asc 0)] (some (.int (f sc))) := by
  refine CtR.of (by decide) (Nat.le_of_ble_eq_true rfl) ?_
  intro p e9 s m args below meth c hE hP hz ls hl
  obtain ⟨hx, hb, hr, hml, hown, hts, hlocks, hname⟩ := hE
  have hown : s.vm.findClass RX9 = some m.cls := hown
  have hK := hOK.1 _ _ _ hz
  have hN := hOK.2.1 _ _ _ hz
  have hl : lv_has ls 2 [(0, .ref q), (1, .ref (asc 0))] := hl
  obtain ⟨b, n, ⟨h1, rfl⟩ | ⟨w, g, h1, h2, rfl⟩⟩ := hf9
  · obtain ⟨j, hj⟩ := zin (k := k) (asc := asc) (sc := sc) h1
    have tail : W p l e9 (rBy d) s m args below meth c s.heap [] 0 0 (MQ below (QRr (some (.int (if b = true then n else -n)))) args s 0 0 (fun _ => False)) (F0 m 24 ls []) := by
      refine lv_aload_n hx hb dX9_by_24 rfl (lv_at hl 0 rfl) ?_
      refine va_get (ci := 8) (v := .int (bz b)) (C := RX9) (T := TX9) (N := 3) hx hb hts in_X9 hown hK hP j hj rfl 0 (by decide) (hts _ q1515) (fun _ h9 => h9) rfl dX9_by_25 ?_
      cases b
      · refine lv_if_eq (tgt := 38) hx hb dX9_by_28 (by decide) (fun _ => ?_) (fun c1 => absurd rfl c1)
        refine lv_aload_n hx hb dX9_by_38 rfl (lv_at hl 0 rfl) ?_
        refine va_get (ci := 8) (v := .int n) (C := RX9) (T := TX9) (N := 3) hx hb hts in_X9 hown hK hP j hj rfl 1 (by decide) (hts _ q1516) (fun _ h9 => h9) rfl dX9_by_39 ?_
        refine lv_ineg hx hb dX9_by_42 ?_
        exact retR_i hx hb hr hlocks rfl dX9_by_43
      · refine lv_if_eq (tgt := 38) hx hb dX9_by_28 (by decide) (fun c1 => absurd c1 (by decide)) (fun _ => ?_)
        refine lv_aload_n hx hb dX9_by_31 rfl (lv_at hl 0 rfl) ?_
        refine va_get (ci := 8) (v := .int n) (C := RX9) (T := TX9) (N := 3) hx hb hts in_X9 hown hK hP j hj rfl 1 (by decide) (hts _ q1516) (fun _ h9 => h9) rfl dX9_by_32 ?_
        refine lv_goto (tgt := 43) hx hb dX9_by_35 (by decide) ?_
        exact retR_i hx hb hr hlocks rfl dX9_by_43
    refine lv_aload_n hx hb dX9_by_0 rfl (lv_at hl 0 rfl) ?_
    refine va_get (ci := 8) (v := .null) (C := RX9) (T := TX9) (N := 3) hx hb hts in_X9 hown hK hP j hj rfl 2 (by decide) (hts _ q1517) (fun _ h9 => h9) rfl dX9_by_1 ?_
    refine lv_ifnullN (tgt := 24) hx hb dX9_by_4 (by decide) ?_
    exact tail
  · obtain ⟨j, hj⟩ := zin (k := k) (asc := asc) (sc := sc) h1
    have ih := mtHolds l D k Z hOK asc P sc e0 aF hFa hFw d w g h2
    have tail : W p l e9 (rBy d) s m args below meth c s.heap [] 0 0 (MQ below (QRr (some (.int (if b = true then n else -n)))) args s 0 0 (fun _ => False)) (F0 m 24 ls []) := by
      refine lv_aload_n hx hb dX9_by_24 rfl (lv_at hl 0 rfl) ?_
      refine va_get (ci := 8) (v := .int (bz b)) (C := RX9) (T := TX9) (N := 3) hx hb hts in_X9 hown hK hP j hj rfl 0 (by decide) (hts _ q1515) (fun _ h9 => h9) rfl dX9_by_25 ?_
      cases b
      · refine lv_if_eq (tgt := 38) hx hb dX9_by_28 (by decide) (fun _ => ?_) (fun c1 => absurd rfl c1)
        refine lv_aload_n hx hb dX9_by_38 rfl (lv_at hl 0 rfl) ?_
        refine va_get (ci := 8) (v := .int n) (C := RX9) (T := TX9) (N := 3) hx hb hts in_X9 hown hK hP j hj rfl 1 (by decide) (hts _ q1516) (fun _ h9 => h9) rfl dX9_by_39 ?_
        refine lv_ineg hx hb dX9_by_42 ?_
        exact retR_i hx hb hr hlocks rfl dX9_by_43
      · refine lv_if_eq (tgt := 38) hx hb dX9_by_28 (by decide) (fun c1 => absurd c1 (by decide)) (fun _ => ?_)
        refine lv_aload_n hx hb dX9_by_31 rfl (lv_at hl 0 rfl) ?_
        refine va_get (ci := 8) (v := .int n) (C := RX9) (T := TX9) (N := 3) hx hb hts in_X9 hown hK hP j hj rfl 1 (by decide) (hts _ q1516) (fun _ h9 => h9) rfl dX9_by_32 ?_
        refine lv_goto (tgt := 43) hx hb dX9_by_35 (by decide) ?_
        exact retR_i hx hb hr hlocks rfl dX9_by_43
    refine lv_aload_n hx hb dX9_by_0 rfl (lv_at hl 0 rfl) ?_
    refine va_get (ci := 8) (v := .ref w) (C := RX9) (T := TX9) (N := 3) hx hb hts in_X9 hown hK hP j hj rfl 2 (by decide) (hts _ q1517) (fun _ h9 => h9) rfl dX9_by_1 ?_
    refine lv_ifnull hx hb dX9_by_4 ?_
    refine lv_aload_n hx hb dX9_by_7 rfl (lv_at hl 0 rfl) ?_
    refine va_get (ci := 8) (v := .ref w) (C := RX9) (T := TX9) (N := 3) hx hb hts in_X9 hown hK hP j hj rfl 2 (by decide) (hts _ q1517) (fun _ h9 => h9) rfl dX9_by_8 ?_
    refine lv_aload_n hx hb dX9_by_11 rfl (lv_at hl 1 rfl) ?_
    refine cHolds q490 ⟨hx, hb, hml, hown, hts⟩ hOK hz hFw va_S.rf hP ih ⟨rfl, rfl⟩ ⟨by show 5 + d + 1 ≤ 6 + d; omega, by show 8 + (3 + 11) + (120 + 40 * d) ≤ 150 + 40 * d; omega⟩ hl.1 ⟨Nat.le_of_ble_eq_true rfl, Nat.le_of_ble_eq_true rfl⟩ (lv_room (Nat.le_of_ble_eq_true rfl)) dX9_by_12 ?_
    cases hgs : g sc
    · refine lv_if_ne (tgt := 24) hx hb dX9_by_17 (by decide) (fun c1 => absurd rfl c1) (fun _ => ?_)
      refine lv_iconst (v := (0 : Int32)) hx hb dX9_by_20 (by decide) ?_
      refine lv_goto (tgt := 43) hx hb dX9_by_21 (by decide) ?_
      exact retR_i hx hb hr hlocks (by show some (Value.int (if g sc = true then (if b = true then n else -n) else 0)) = _; rw [hgs]; rfl) dX9_by_43
    · refine lv_if_ne (tgt := 24) hx hb dX9_by_17 (by decide) (fun _ => ?_) (fun c1 => absurd c1 (by decide))
      have ef : (fun sc => if g sc = true then (if b = true then n else -n) else 0) sc = (if b = true then n else -n) := by show (if g sc = true then (if b = true then n else -n) else 0) = _; rw [hgs]; rfl
      rw [ef]
      exact tail
set_option maxRecDepth 100000 in
theorem mtX8_turns (l : Launch) (D : va_G) (k : Nat → ClassId) (Z : zZ) (hOK : zOK D zCl (zTys k) Z) (asc : Nat → Nat) (P : va_W) (sc : Sc) (e0 : Nat) (aF : Nat → Nat) (hFa : zFa Z aF) (hFw : zFw Z) (d q n9 : Nat) (f : Sc → Int32) (hf9 : lwAt k e0 aF P d q n9 f) : CtR l yX8_turns cX8_turns 4 (some .int) (rTu d) Z D zCl (cS k asc sc ++ P) [.ref q, .ref (asc 0)] (some (.int (f sc))) := by
  refine CtR.of (by decide) (Nat.le_of_ble_eq_true rfl) ?_
  intro p e9 s m args below meth c hE hP hz ls hl
  obtain ⟨hx, hb, hr, hml, hown, hts, hlocks, hname⟩ := hE
  have hown : s.vm.findClass RX8 = some m.cls := hown
  have hK := hOK.1 _ _ _ hz
  have hN := hOK.2.1 _ _ _ hz
  have hl : lv_has ls 4 [(0, .ref q), (1, .ref (asc 0))] := hl
  obtain ⟨ql, els, gs, hq, hli, -, hpw, rfl⟩ := hf9
  obtain ⟨j, hj⟩ := zin (k := k) (asc := asc) (sc := sc) hq
  refine lv_iconst (v := nI 0) hx hb dX8_turns_0 (by decide) ?_
  refine lv_istore_n (lv' := [(2, .int (nI 0)), (0, .ref q), (1, .ref (asc 0))]) hx hb dX8_turns_1 rfl hl (by decide) rfl (fun ls hl => ?_)
  refine lv_iconst (v := nI 0) hx hb dX8_turns_2 (by decide) ?_
  refine lv_istore_n (lv' := [(3, .int (nI 0)), (2, .int (nI 0)), (0, .ref q), (1, .ref (asc 0))]) hx hb dX8_turns_3 rfl hl (by decide) rfl (fun ls hl => ?_)
  have key : ∀ (n i : Nat), i + n = els.length → ∀ ls : Array Slot, lv_has ls 4 [(0, .ref q), (1, .ref (asc 0)), (2, .int (sumV (gs.take i) sc)), (3, .int (nI i))] → W p l e9 (rTu d) s m args below meth c s.heap [] 0 0 (MQ below (QRr (some (.int (sumV gs sc)))) args s 0 0 (fun _ => False)) (F0 m 4 ls []) := by
    intro n
    induction n with
    | zero =>
      intro i hi ls hl
      have ei : i = els.length := by omega
      subst ei
      refine lv_iload_n hx hb dX8_turns_4 rfl (lv_at hl 3 rfl) ?_
      refine lv_aload_n hx hb dX8_turns_5 rfl (lv_at hl 0 rfl) ?_
      refine va_get (ci := 7) (v := .ref ql) (C := RX8) (T := TX8) (N := 1) hx hb hts in_X8 hown hK hP j hj rfl 0 (by decide) (hts _ q1315) (fun _ h9 => h9) rfl dX8_turns_6 ?_
      refine zliSize ⟨hx, hb, hml, hown, hts⟩ hOK hz va_S.rf hP (fun x h => List.mem_append_right _ h) hli q466 ⟨by show 1 ≤ 7 + d; omega, by show 20 ≤ 180 + 40 * d; omega⟩ hl.1 (lv_room (Nat.le_of_ble_eq_true rfl)) ⟨Nat.le_of_ble_eq_true rfl, Nat.le_of_ble_eq_true rfl⟩ dX8_turns_9 ?_
      refine lv_icmp_ge (tgt := 39) hx hb dX8_turns_12 (by decide) (fun _ => ?_) (fun c1 => absurd (Int32.le_refl _) c1)
      refine lv_iload_n hx hb dX8_turns_39 rfl (lv_at hl 2 rfl) ?_
      exact retR_i hx hb hr hlocks (by rw [List.take_of_length_le (by rw [hpw.1]; exact Nat.le_refl _)]) dX8_turns_40
    | succ n ih =>
      intro i hi ls hl
      obtain ⟨x, g, hx1, hg1, hxg⟩ := hpw.get (show i < els.length by omega)
      have hlen := hli.len
      refine lv_iload_n hx hb dX8_turns_4 rfl (lv_at hl 3 rfl) ?_
      refine lv_aload_n hx hb dX8_turns_5 rfl (lv_at hl 0 rfl) ?_
      refine va_get (ci := 7) (v := .ref ql) (C := RX8) (T := TX8) (N := 1) hx hb hts in_X8 hown hK hP j hj rfl 0 (by decide) (hts _ q1315) (fun _ h9 => h9) rfl dX8_turns_6 ?_
      refine zliSize ⟨hx, hb, hml, hown, hts⟩ hOK hz va_S.rf hP (fun x h => List.mem_append_right _ h) hli q466 ⟨by show 1 ≤ 7 + d; omega, by show 20 ≤ 180 + 40 * d; omega⟩ hl.1 (lv_room (Nat.le_of_ble_eq_true rfl)) ⟨Nat.le_of_ble_eq_true rfl, Nat.le_of_ble_eq_true rfl⟩ dX8_turns_9 ?_
      refine lv_icmp_ge (tgt := 39) hx hb dX8_turns_12 (by decide) (fun c1 => absurd c1 (nI_ge (by omega) (by omega))) (fun _ => ?_)
      refine lv_iload_n hx hb dX8_turns_15 rfl (lv_at hl 2 rfl) ?_
      refine lv_aload_n hx hb dX8_turns_16 rfl (lv_at hl 0 rfl) ?_
      refine va_get (ci := 7) (v := .ref ql) (C := RX8) (T := TX8) (N := 1) hx hb hts in_X8 hown hK hP j hj rfl 0 (by decide) (hts _ q1315) (fun _ h9 => h9) rfl dX8_turns_17 ?_
      refine lv_iload_n hx hb dX8_turns_20 rfl (lv_at hl 3 rfl) ?_
      refine zliGet ⟨hx, hb, hml, hown, hts⟩ hOK hz va_S.rf hP (fun x h => List.mem_append_right _ h) hli hx1 q470 ⟨by show 3 ≤ 7 + d; omega, by show 65 ≤ 180 + 40 * d; omega⟩ hl.1 (lv_room (Nat.le_of_ble_eq_true rfl)) ⟨Nat.le_of_ble_eq_true rfl, Nat.le_of_ble_eq_true rfl⟩ dX8_turns_21 ?_
      obtain ⟨jx, fx, hjx⟩ : ∃ (jx : Nat) (fx : List Value), (cS k asc sc ++ P)[jx]? = some (x, .inr (8, fx)) := hxg.mem
      refine va_castS (cC := D.1 8) hx hb hown (hts _ q484) (hK.1 8 _ rfl).2 (va_recv (q := zCl[8]) hK hP rfl hjx) dX8_turns_24 ?_
      refine lv_aload_n hx hb dX8_turns_27 rfl (lv_at hl 1 rfl) ?_
      refine cRV (As := [.ref (asc 0)]) (ci := 8) ⟨hx, hb, hml, hown, hts⟩ hOK hz va_S.rf hP (mtX9_by l D k Z hOK asc P sc e0 aF hFa hFw d x g hxg) (kX9_by hts q485 rfl rfl ⟨by show 6 + d + 1 ≤ 7 + d; omega, by show 8 + (2 + 11) + (150 + 40 * d) ≤ 180 + 40 * d; omega⟩) jx hjx rfl rfl hl.1 rfl (lv_room (Nat.le_of_ble_eq_true rfl)) ⟨Nat.le_of_ble_eq_true rfl, Nat.le_of_ble_eq_true rfl⟩ dX8_turns_28 ?_
      refine lv_iadd hx hb dX8_turns_31 ?_
      refine lv_istore_n (lv' := [(2, .int (sumV (gs.take i) sc + g sc)), (0, .ref q), (1, .ref (asc 0)), (3, .int (nI i))]) hx hb dX8_turns_32 rfl hl (by decide) rfl (fun ls hl => ?_)
      refine lv_iinc (v := nI i + 1) (lv' := [(3, .int (nI i + 1)), (2, .int (sumV (gs.take i) sc + g sc)), (0, .ref q), (1, .ref (asc 0))]) hx hb dX8_turns_33 hl (k := 3) rfl rfl (by decide) rfl (fun ls hl => ?_)
      rw [← nI_succ, ← sumV_take gs sc i g hg1] at hl
      refine lv_goto (tgt := 4) hx hb dX8_turns_36 (by decide) ?_
      exact ih (i + 1) (by omega) ls (lv_sub hl [2, 3, 1, 0] rfl)
  exact key els.length 0 (by omega) ls (lv_sub hl [2, 3, 1, 0] rfl)
