/-! java.util.ArrayList: its cells, its contracts -/
def lsO (q e : Nat) (mc : Int32) (n : Nat) : Nat × va_E := (q, .inr (15, [.int mc, .ref e, .int (nI n)]))
def lsA (k : Nat → ClassId) (e cap : Nat) (els : List Nat) : Nat × va_E := (e, .inl (k 4, cap, .inr (.inr (.inr (.inr (fun i => els[i]?))))))
theorem ls_put (els : List Nat) (x : Nat) : va_up (fun i => els[i]?) els.length (some x) = fun i => (els ++ [x])[i]? := by
  funext j
  unfold va_up
  by_cases h : j = els.length
  · subst h
    rw [if_pos rfl, List.getElem?_append_right (Nat.le_refl _), Nat.sub_self]
    rfl
  · rw [if_neg h]
    rcases Nat.lt_or_ge j els.length with q | q
    · rw [List.getElem?_append_left q]
    · show els[j]? = (els ++ [x])[j]?
      rw [List.getElem?_eq_none q, List.getElem?_eq_none (by rw [List.length_append, List.length_singleton]; omega)]
theorem zcA {D : va_G} {cl : List vw_C} {k : Nat → ClassId} {cA : ClassId} {s : State} (h : va_K D cl (zTys k ++ [(cA, .object "java/lang/Object")]) s) : cA = k 4 := by
  obtain ⟨_, _, _, _, _, e1⟩ := (h.2 4 _ rfl).2
  obtain ⟨_, _, _, _, _, e2⟩ := (h.2 5 _ rfl).2
  exact Option.some.inj (e2.symm.trans e1)
/-- cells in another order -/
theorem zperm {D : va_G} {cl : List vw_C} {w1 w2 : va_W} {H : Heap} (h : va_P D cl w1 H) (hp : w1.Perm w2) : va_P D cl w2 H := by
  intro i q hi
  obtain ⟨j, hj⟩ := List.getElem?_of_mem (hp.mem_iff.mpr (List.mem_of_getElem? hi))
  exact h j q hj
theorem zD_nd {A : Nat → Prop} {ws : va_W} : va_D A ws ↔ (ws.map (·.1)).Nodup ∧ ∀ q ∈ ws, A q.1 := by
  constructor
  · intro h
    refine ⟨?_, fun q hq => ?_⟩
    · rw [List.nodup_iff_pairwise_ne, List.pairwise_iff_getElem]
      intro i j hi hj hij e
      rw [List.getElem_map, List.getElem_map] at e
      rw [List.length_map] at hi hj
      have := h.1 i j _ _ (List.getElem?_eq_getElem hi) (List.getElem?_eq_getElem hj) e
      omega
    · obtain ⟨i, hi⟩ := List.getElem?_of_mem hq
      exact h.2 i q hi
  · intro h
    refine ⟨fun i j p q hi hj e => ?_, fun i q hi => h.2 q (List.mem_of_getElem? hi)⟩
    have h1 : (ws.map (·.1))[i]? = some p.1 := by rw [List.getElem?_map, hi]; rfl
    have h2 : (ws.map (·.1))[j]? = some p.1 := by rw [List.getElem?_map, hj, e]; rfl
    have hl : i < (ws.map (·.1)).length := (List.getElem?_eq_some_iff.mp h1).1
    exact (List.getElem?_inj hl h.1).mp (h1.trans h2.symm)
theorem zpermD {A : Nat → Prop} {w1 w2 : va_W} (h : va_D A w1) (hp : w1.Perm w2) : va_D A w2 := by
  rw [zD_nd] at h ⊢
  exact ⟨(hp.map _).nodup_iff.mp h.1, fun q hq => h.2 q (hp.mem_iff.mpr hq)⟩
theorem zdrop1 {D : va_G} {cl : List vw_C} {a b : Nat × va_E} {xs : va_W} {H : Heap} (h : va_P D cl (a :: b :: xs) H) : va_P D cl (a :: xs) H := by
  intro i q hi
  cases i with
  | zero => exact h 0 q hi
  | succ i => exact h (i + 2) q hi
theorem zdrop1D {A : Nat → Prop} {a b : Nat × va_E} {xs : va_W} (h : va_D A (a :: b :: xs)) : va_D A (a :: xs) := by
  rw [zD_nd] at h ⊢
  refine ⟨?_, fun q hq => h.2 q ?_⟩
  · have := h.1
    simp only [List.map_cons, List.nodup_cons, List.mem_cons, not_or] at this ⊢
    exact ⟨this.1.2, this.2.2⟩
  · rcases List.mem_cons.mp hq with e | e
    · rw [e]; exact List.mem_cons_self
    · exact List.mem_cons_of_mem _ (List.mem_cons_of_mem _ e)
theorem zp_last (a : Nat × va_E) (xs : va_W) (b : Nat × va_E) : ((a :: xs) ++ [b]).Perm (a :: b :: xs) :=
  (List.perm_append_singleton b (a :: xs)).trans (List.Perm.swap a b xs)
/-- what the lists need of the statics: arrays of objects; the empty array e0 -/
def zLs (Z : zZ) (e0 mi : Nat) : Prop := ∀ A U H, Z A U H → va_AO "java/lang/Object" U ∧ va_Z "java/util/ArrayList" "DEFAULTCAPACITY_EMPTY_ELEMENTDATA" "[Ljava/lang/Object;" (.ref e0) A U H ∧ va_T (.object "java/lang/Object") e0 0 (fun _ => .null) A U H ∧ va_Mi "[Ljava/lang/Object;" mi U
/-- an object of a class may lie in an array of objects -/
theorem zAny {D : va_G} {cl : List vw_C} {tys : List (ClassId × FieldType)} {s : State} {H : Heap} {ws : va_W} {a q0 ci : Nat} {fs : List Value} {r : vw_C} (hK : va_K D cl tys s) (hN : ∀ w ∈ zN, va_Nw w s) (hP : va_P D cl ws H) (he : ws[q0]? = some (a, .inr (ci, fs))) (hc : cl[ci]? = some r) (hw : Cond.castable r.1 "java/lang/Object" ∈ zN) : va_Any "java/lang/Object" s H a := by
  refine va_rAny hK hP he hc (fun comp c0 h1 h2 => ?_)
  obtain ⟨c9, t9, f1, f2, f3⟩ := Cond.castable_spec (va_Nw.use (A := #[]) rfl (hN _ hw))
  rw [Option.some.inj (h1.symm.trans f2), Option.some.inj (h2.symm.trans f1)]
  exact f3
theorem kJ2_size {R : Room} {s : State} {args : Array Value} {own : String} {idx mc ms : Nat} {rm : Room} (hts : ∀ w ∈ lw_all, w.before args s = true) (hl : Cond.methodLink own idx yJ2_size ∈ lw_all) (hrc : rm.cells = mc) (hrs : rm.slots = ms) (hR : rm.frames + 1 ≤ R.frames ∧ 8 + (1 + 11) + rm.locals ≤ R.locals) : CallW R s args own RJ2 idx yJ2_size cJ2_size 1 (some .int) (ws_ yJ2_size cJ2_size 1 (some .int)) rm mc ms 0 :=
  cwV 0 hts (lw_V hl q467 q468 q113 q469) rfl hrc hrs (by decide +kernel) hR
theorem kJ2_isEmpty {R : Room} {s : State} {args : Array Value} {own : String} {idx mc ms : Nat} {rm : Room} (hts : ∀ w ∈ lw_all, w.before args s = true) (hl : Cond.methodLink own idx yJ2_isEmpty ∈ lw_all) (hrc : rm.cells = mc) (hrs : rm.slots = ms) (hR : rm.frames + 1 ≤ R.frames ∧ 8 + (1 + 11) + rm.locals ≤ R.locals) : CallW R s args own RJ2 idx yJ2_isEmpty cJ2_isEmpty 1 (some .boolean) (ws_ yJ2_isEmpty cJ2_isEmpty 1 (some .boolean)) rm mc ms 0 :=
  cwV 0 hts (lw_V hl q711 q712 q113 q713) rfl hrc hrs (by decide +kernel) hR
theorem kJ2_get {R : Room} {s : State} {args : Array Value} {own : String} {idx mc ms : Nat} {rm : Room} (hts : ∀ w ∈ lw_all, w.before args s = true) (hl : Cond.methodLink own idx yJ2_get ∈ lw_all) (hrc : rm.cells = mc) (hrs : rm.slots = ms) (hR : rm.frames + 1 ≤ R.frames ∧ 8 + (2 + 11) + rm.locals ≤ R.locals) : CallW R s args own RJ2 idx yJ2_get cJ2_get 2 (some (.object "java/lang/Object")) (ws_ yJ2_get cJ2_get 2 (some (.object "java/lang/Object"))) rm mc ms 1 :=
  cwV 1 hts (lw_V hl q471 q472 q113 q473) rfl hrc hrs (by decide +kernel) hR
theorem kJ2_elementData {R : Room} {s : State} {args : Array Value} {own : String} {idx mc ms : Nat} {rm : Room} (hts : ∀ w ∈ lw_all, w.before args s = true) (hl : Cond.methodLink own idx yJ2_elementData ∈ lw_all) (hrc : rm.cells = mc) (hrs : rm.slots = ms) (hR : rm.frames + 1 ≤ R.frames ∧ 8 + (2 + 11) + rm.locals ≤ R.locals) : CallW R s args own RJ2 idx yJ2_elementData cJ2_elementData 2 (some (.object "java/lang/Object")) (ws_ yJ2_elementData cJ2_elementData 2 (some (.object "java/lang/Object"))) rm mc ms 1 :=
  cwV 1 hts (lw_V hl q481 q482 q113 q483) rfl hrc hrs (by decide +kernel) hR
theorem kJ2_remove {R : Room} {s : State} {args : Array Value} {own : String} {idx mc ms : Nat} {rm : Room} (hts : ∀ w ∈ lw_all, w.before args s = true) (hl : Cond.methodLink own idx yJ2_remove ∈ lw_all) (hrc : rm.cells = mc) (hrs : rm.slots = ms) (hR : rm.frames + 1 ≤ R.frames ∧ 8 + (4 + 11) + rm.locals ≤ R.locals) : CallW R s args own RJ2 idx yJ2_remove cJ2_remove 4 (some (.object "java/lang/Object")) (ws_ yJ2_remove cJ2_remove 4 (some (.object "java/lang/Object"))) rm mc ms 1 :=
  cwV 1 hts (lw_V hl q716 q717 q113 q718) rfl hrc hrs (by decide +kernel) hR
theorem kJ2_fastRemove {R : Room} {s : State} {args : Array Value} {own : String} {idx mc ms : Nat} {rm : Room} (hts : ∀ w ∈ lw_all, w.before args s = true) (hl : Cond.methodLink own idx yJ2_fastRemove ∈ lw_all) (hrc : rm.cells = mc) (hrs : rm.slots = ms) (hR : rm.frames + 1 ≤ R.frames ∧ 8 + (4 + 11) + rm.locals ≤ R.locals) : CallW R s args own RJ2 idx yJ2_fastRemove cJ2_fastRemove 4 none (ws_ yJ2_fastRemove cJ2_fastRemove 4 none) rm mc ms 2 :=
  cwV 2 hts (lw_V hl q721 qs11 q113 q722) rfl hrc hrs (by decide +kernel) hR
theorem kJ2_clear {R : Room} {s : State} {args : Array Value} {own : String} {idx mc ms : Nat} {rm : Room} (hts : ∀ w ∈ lw_all, w.before args s = true) (hl : Cond.methodLink own idx yJ2_clear ∈ lw_all) (hrc : rm.cells = mc) (hrs : rm.slots = ms) (hR : rm.frames + 1 ≤ R.frames ∧ 8 + (4 + 11) + rm.locals ≤ R.locals) : CallW R s args own RJ2 idx yJ2_clear cJ2_clear 4 none (ws_ yJ2_clear cJ2_clear 4 none) rm mc ms 0 :=
  cwV 0 hts (lw_V hl q733 q734 q113 q735) rfl hrc hrs (by decide +kernel) hR
theorem kJ2_add {R : Room} {s : State} {args : Array Value} {own : String} {idx mc ms : Nat} {rm : Room} (hts : ∀ w ∈ lw_all, w.before args s = true) (hl : Cond.methodLink own idx yJ2_add ∈ lw_all) (hrc : rm.cells = mc) (hrs : rm.slots = ms) (hR : rm.frames + 1 ≤ R.frames ∧ 8 + (2 + 11) + rm.locals ≤ R.locals) : CallW R s args own RJ2 idx yJ2_add cJ2_add 2 (some .boolean) (ws_ yJ2_add cJ2_add 2 (some .boolean)) rm mc ms 1 :=
  cwV 1 hts (lw_V hl q1440 q1441 q113 q1442) rfl hrc hrs (by decide +kernel) hR
theorem kJ2_add_2 {R : Room} {s : State} {args : Array Value} {own : String} {idx mc ms : Nat} {rm : Room} (hts : ∀ w ∈ lw_all, w.before args s = true) (hl : Cond.methodLink own idx yJ2_add_2 ∈ lw_all) (hrc : rm.cells = mc) (hrs : rm.slots = ms) (hR : rm.frames + 1 ≤ R.frames ∧ 8 + (4 + 11) + rm.locals ≤ R.locals) : CallW R s args own RJ2 idx yJ2_add_2 cJ2_add_2 4 none (ws_ yJ2_add_2 cJ2_add_2 4 none) rm mc ms 3 :=
  cwV 3 hts (lw_V hl q1445 qs31 q113 q1446) rfl hrc hrs (by decide +kernel) hR
theorem kJ2_grow {R : Room} {s : State} {args : Array Value} {own : String} {idx mc ms : Nat} {rm : Room} (hts : ∀ w ∈ lw_all, w.before args s = true) (hl : Cond.methodLink own idx yJ2_grow ∈ lw_all) (hrc : rm.cells = mc) (hrs : rm.slots = ms) (hR : rm.frames + 1 ≤ R.frames ∧ 8 + (1 + 11) + rm.locals ≤ R.locals) : CallW R s args own RJ2 idx yJ2_grow cJ2_grow 1 (some (.array (.object "java/lang/Object"))) (ws_ yJ2_grow cJ2_grow 1 (some (.array (.object "java/lang/Object")))) rm mc ms 0 :=
  cwV 0 hts (lw_V hl q1449 qs32 q113 q1450) rfl hrc hrs (by decide +kernel) hR
theorem kJ2_grow_2 {R : Room} {s : State} {args : Array Value} {own : String} {idx mc ms : Nat} {rm : Room} (hts : ∀ w ∈ lw_all, w.before args s = true) (hl : Cond.methodLink own idx yJ2_grow_2 ∈ lw_all) (hrc : rm.cells = mc) (hrs : rm.slots = ms) (hR : rm.frames + 1 ≤ R.frames ∧ 8 + (4 + 11) + rm.locals ≤ R.locals) : CallW R s args own RJ2 idx yJ2_grow_2 cJ2_grow_2 4 (some (.array (.object "java/lang/Object"))) (ws_ yJ2_grow_2 cJ2_grow_2 4 (some (.array (.object "java/lang/Object")))) rm mc ms 1 :=
  cwV 1 hts (lw_V hl q1453 qs33 q113 q1454) rfl hrc hrs (by decide +kernel) hR
theorem kJ22_checkIndex {R : Room} {s : State} {args : Array Value} {own : String} {idx mc ms : Nat} {rm : Room} (hts : ∀ w ∈ lw_all, w.before args s = true) (hl : Cond.methodLink own idx yJ22_checkIndex ∈ lw_all) (hrc : rm.cells = mc) (hrs : rm.slots = ms) (hR : rm.frames + 1 ≤ R.frames ∧ 8 + (2 + 11) + rm.locals ≤ R.locals) : CallB R s args own idx yJ22_checkIndex cJ22_checkIndex 2 (some .int) (ws_ yJ22_checkIndex cJ22_checkIndex 2 (some .int)) rm mc ms 2 ∧ (Cond.static yJ22_checkIndex).before args s = true :=
  va_cwS 2 hts (lw_S hl q475 q147 q476) rfl hrc hrs (by decide +kernel) hR
theorem kJ2_init {R : Room} {s : State} {args : Array Value} {own : String} {idx mc ms : Nat} {rm : Room} (hts : ∀ w ∈ lw_all, w.before args s = true) (hl : Cond.methodLink own idx yJ2_init ∈ lw_all) (hrc : rm.cells = mc) (hrs : rm.slots = ms) (hR : rm.frames + 1 ≤ R.frames ∧ 8 + (1 + 11) + rm.locals ≤ R.locals) : CallB R s args own idx yJ2_init cJ2_init 1 none (ws_ yJ2_init cJ2_init 1 none) rm mc ms 0 ∧ yJ2_init.name = "<init>" ∧ (Cond.instanceMethod yJ2_init).before args s = true :=
  cwI 0 hts (lw_meth q334) rfl hrc hrs (hts _ q113) (hts _ hl) (hts _ q333) rfl (by decide +kernel) hR
theorem kJ9_copyOf_2 {R : Room} {s : State} {args : Array Value} {own : String} {idx mc ms : Nat} {rm : Room} (hts : ∀ w ∈ lw_all, w.before args s = true) (hl : Cond.methodLink own idx yJ9_copyOf_2 ∈ lw_all) (hrc : rm.cells = mc) (hrs : rm.slots = ms) (hR : rm.frames + 1 ≤ R.frames ∧ 8 + (2 + 11) + rm.locals ≤ R.locals) : CallB R s args own idx yJ9_copyOf_2 cJ9_copyOf_2 2 (some (.array (.object "java/lang/Object"))) (ws_ yJ9_copyOf_2 cJ9_copyOf_2 2 (some (.array (.object "java/lang/Object")))) rm mc ms 2 ∧ (Cond.static yJ9_copyOf_2).before args s = true :=
  va_cwS 2 hts (lw_S hl q1457 q123 q1458) rfl hrc hrs (by decide +kernel) hR
theorem kJ9_copyOf_3 {R : Room} {s : State} {args : Array Value} {own : String} {idx mc ms : Nat} {rm : Room} (hts : ∀ w ∈ lw_all, w.before args s = true) (hl : Cond.methodLink own idx yJ9_copyOf_3 ∈ lw_all) (hrc : rm.cells = mc) (hrs : rm.slots = ms) (hR : rm.frames + 1 ≤ R.frames ∧ 8 + (4 + 11) + rm.locals ≤ R.locals) : CallB R s args own idx yJ9_copyOf_3 cJ9_copyOf_3 4 (some (.array (.object "java/lang/Object"))) (ws_ yJ9_copyOf_3 cJ9_copyOf_3 4 (some (.array (.object "java/lang/Object")))) rm mc ms 3 ∧ (Cond.static yJ9_copyOf_3).before args s = true :=
  va_cwS 3 hts (lw_S hl q1489 q123 q1490) rfl hrc hrs (by decide +kernel) hR
theorem kJ7_newLength {R : Room} {s : State} {args : Array Value} {own : String} {idx mc ms : Nat} {rm : Room} (hts : ∀ w ∈ lw_all, w.before args s = true) (hl : Cond.methodLink own idx yJ7_newLength ∈ lw_all) (hrc : rm.cells = mc) (hrs : rm.slots = ms) (hR : rm.frames + 1 ≤ R.frames ∧ 8 + (4 + 11) + rm.locals ≤ R.locals) : CallB R s args own idx yJ7_newLength cJ7_newLength 4 (some .int) (ws_ yJ7_newLength cJ7_newLength 4 (some .int)) rm mc ms 3 ∧ (Cond.static yJ7_newLength).before args s = true :=
  va_cwS 3 hts (lw_S hl q835 q121 q836) rfl hrc hrs (by decide +kernel) hR
theorem kJ1_init {R : Room} {s : State} {args : Array Value} {own : String} {idx mc ms : Nat} {rm : Room} (hts : ∀ w ∈ lw_all, w.before args s = true) (hl : Cond.methodLink own idx yJ1_init ∈ lw_all) (hrc : rm.cells = mc) (hrs : rm.slots = ms) (hR : rm.frames + 1 ≤ R.frames ∧ 8 + (1 + 11) + rm.locals ≤ R.locals) : CallB R s args own idx yJ1_init cJ1_init 1 none (ws_ yJ1_init cJ1_init 1 none) rm mc ms 0 ∧ yJ1_init.name = "<init>" ∧ (Cond.instanceMethod yJ1_init).before args s = true :=
  cwI 0 hts (lw_meth q337) rfl hrc hrs (hts _ q112) (hts _ hl) (hts _ q336) rfl (by decide +kernel) hR
theorem kJ0_init {R : Room} {s : State} {args : Array Value} {own : String} {idx mc ms : Nat} {rm : Room} (hts : ∀ w ∈ lw_all, w.before args s = true) (hl : Cond.methodLink own idx yJ0_init ∈ lw_all) (hrc : rm.cells = mc) (hrs : rm.slots = ms) (hR : rm.frames + 1 ≤ R.frames ∧ 8 + (1 + 11) + rm.locals ≤ R.locals) : CallB R s args own idx yJ0_init cJ0_init 1 none (ws_ yJ0_init cJ0_init 1 none) rm mc ms 0 ∧ yJ0_init.name = "<init>" ∧ (Cond.instanceMethod yJ0_init).before args s = true :=
  cwI 0 hts (lw_meth q340) rfl hrc hrs (hts _ q111) (hts _ hl) (hts _ q339) rfl (by decide +kernel) hR
def rJ2_0 : Room := { frames := 0, cells := 0, slots := 0, locals := 0 }
def rJ2_1 : Room := { frames := 1, cells := 0, slots := 0, locals := 22 }
def rJ2_2 : Room := { frames := 2, cells := 0, slots := 0, locals := 44 }
def rJ2_3 : Room := { frames := 3, cells := 0, slots := 0, locals := 66 }
set_option maxRecDepth 100000 in
theorem mtJ2_size (l : Launch) (D : va_G) (k : Nat → ClassId) (Z : zZ) (hOK : zOK D zCl (zTys k) Z) (q e : Nat) (mc : Int32) (n : Nat) : CtR l yJ2_size cJ2_size 1 (some .int) rJ2_0 Z D zCl [lsO q e mc n] [.ref q] (some (.int (nI n))) := by
  refine CtR.of (by decide) (Nat.le_of_ble_eq_true rfl) ?_
  intro p e9 s m args below meth c hE hP hz ls hl
  obtain ⟨hx, hb, hr, hml, hown, hts, hlocks, hname⟩ := hE
  have hown : s.vm.findClass RJ2 = some m.cls := hown
  have hK := hOK.1 _ _ _ hz
  have hN := hOK.2.1 _ _ _ hz
  have hl : lv_has ls 1 [(0, .ref q)] := hl
  refine lv_aload_n hx hb dJ2_size_0 rfl (lv_at hl 0 rfl) ?_
  refine va_get (ci := 15) (v := .int (nI n)) (C := RJ2) (T := TJ2) (N := 3) hx hb hts in_J2 hown hK hP 0 rfl rfl 2 (by decide) (hts _ q345) (fun _ h9 => h9) rfl dJ2_size_1 ?_
  exact retR_i hx hb hr hlocks rfl dJ2_size_4
set_option maxRecDepth 100000 in
theorem mtJ2_isEmpty (l : Launch) (D : va_G) (k : Nat → ClassId) (Z : zZ) (hOK : zOK D zCl (zTys k) Z) (q e : Nat) (mc : Int32) (n : Nat) (hn : n < 2 ^ 31) : CtR l yJ2_isEmpty cJ2_isEmpty 1 (some .boolean) rJ2_0 Z D zCl [lsO q e mc n] [.ref q] (some (.int (bz (decide (n = 0))))) := by
  refine CtR.of (by decide) (Nat.le_of_ble_eq_true rfl) ?_
  intro p e9 s m args below meth c hE hP hz ls hl
  obtain ⟨hx, hb, hr, hml, hown, hts, hlocks, hname⟩ := hE
  have hown : s.vm.findClass RJ2 = some m.cls := hown
  have hK := hOK.1 _ _ _ hz
  have hN := hOK.2.1 _ _ _ hz
  have hl : lv_has ls 1 [(0, .ref q)] := hl
  refine lv_aload_n hx hb dJ2_isEmpty_0 rfl (lv_at hl 0 rfl) ?_
  refine va_get (ci := 15) (v := .int (nI n)) (C := RJ2) (T := TJ2) (N := 3) hx hb hts in_J2 hown hK hP 0 rfl rfl 2 (by decide) (hts _ q345) (fun _ h9 => h9) rfl dJ2_isEmpty_1 ?_
  refine lv_if_ne (tgt := 11) hx hb dJ2_isEmpty_4 (by decide) (fun c1 => ?_) (fun c1 => ?_)
  · refine lv_iconst (v := (0 : Int32)) hx hb dJ2_isEmpty_11 (by decide) ?_
    exact retR_z (v := false) hx hb hr hlocks (by rw [decide_eq_false (fun h => c1 (by rw [h]; rfl))]) dJ2_isEmpty_12
  refine lv_iconst (v := (1 : Int32)) hx hb dJ2_isEmpty_7 (by decide) ?_
  refine lv_goto (tgt := 12) hx hb dJ2_isEmpty_8 (by decide) ?_
  exact retR_z (v := true) hx hb hr hlocks (by rw [decide_eq_true ((nI_eq (b := 0) hn (by omega)).mp c1)]) dJ2_isEmpty_12
set_option maxRecDepth 100000 in
theorem mtJ22_checkIndex (l : Launch) (D : va_G) (k : Nat → ClassId) (Z : zZ) (hOK : zOK D zCl (zTys k) Z) (x y : Int32) (h0 : ¬ x < 0) (h1 : x < y) : CtR l yJ22_checkIndex cJ22_checkIndex 2 (some .int) rJ2_1 Z D zCl [] [.int x, .int y] (some (.int x)) := by
  refine CtR.of (by decide) (Nat.le_of_ble_eq_true rfl) ?_
  intro p e9 s m args below meth c hE hP hz ls hl
  obtain ⟨hx, hb, hr, hml, hown, hts, hlocks, hname⟩ := hE
  have hown : s.vm.findClass RJ22 = some m.cls := hown
  have hK := hOK.1 _ _ _ hz
  have hN := hOK.2.1 _ _ _ hz
  have hl : lv_has ls 2 [(0, .int x), (1, .int y)] := hl
  refine lv_iload_n hx hb dJ22_checkIndex_0 rfl (lv_at hl 0 rfl) ?_
  refine lv_iload_n hx hb dJ22_checkIndex_1 rfl (lv_at hl 1 rfl) ?_
  refine lv_null hx hb dJ22_checkIndex_2 ?_
  refine cRS (ws := []) (As := [.int x, .int y, .null]) ⟨hx, hb, hml, hown, hts⟩ hOK hz va_S.rf zP0 (mtJ11_checkIndex l D Z hOK x y .null rfl h0 h1) (kJ11_checkIndex hts q477 rfl rfl ⟨Nat.le_of_ble_eq_true rfl, Nat.le_of_ble_eq_true rfl⟩) rfl hl.1 rfl (lv_room (Nat.le_of_ble_eq_true rfl)) ⟨Nat.le_of_ble_eq_true rfl, Nat.le_of_ble_eq_true rfl⟩ dJ22_checkIndex_3 ?_
  exact retR_i hx hb hr hlocks rfl dJ22_checkIndex_6
set_option maxRecDepth 100000 in
theorem mtJ2_elementData (l : Launch) (D : va_G) (k : Nat → ClassId) (Z : zZ) (hOK : zOK D zCl (zTys k) Z) (q e : Nat) (mc : Int32) (cap : Nat) (els : List Nat) (hcap : els.length ≤ cap) (hc31 : cap < 2 ^ 31) (i x : Nat) (hx9 : els[i]? = some x) : CtR l yJ2_elementData cJ2_elementData 2 (some (.object "java/lang/Object")) rJ2_0 Z D zCl [lsO q e mc els.length, lsA k e cap els] [.ref q, .int (nI i)] (some (.ref x)) := by
  refine CtR.of (by decide) (Nat.le_of_ble_eq_true rfl) ?_
  intro p e9 s m args below meth c hE hP hz ls hl
  obtain ⟨hx, hb, hr, hml, hown, hts, hlocks, hname⟩ := hE
  have hown : s.vm.findClass RJ2 = some m.cls := hown
  have hK := hOK.1 _ _ _ hz
  have hN := hOK.2.1 _ _ _ hz
  have hl : lv_has ls 2 [(0, .ref q), (1, .int (nI i))] := hl
  have hi9 : i < els.length := (List.getElem?_eq_some_iff.mp hx9).1
  refine lv_aload_n hx hb dJ2_elementData_0 rfl (lv_at hl 0 rfl) ?_
  refine va_get (ci := 15) (v := .ref e) (C := RJ2) (T := TJ2) (N := 3) hx hb hts in_J2 hown hK hP 0 rfl rfl 1 (by decide) (hts _ q344) (fun _ h9 => h9) rfl dJ2_elementData_1 ?_
  refine lv_iload_n hx hb dJ2_elementData_4 rfl (lv_at hl 1 rfl) ?_
  refine va_aldq hx hb hK hP 1 4 rfl rfl (vp_in_nI (show i < cap by omega) hc31) dJ2_elementData_5 ?_
  refine W.eq (g2 := F0 m 6 ls [.ref x]) (by show F0 m 6 ls [va_rf els[(nI i).toNatClampNeg]?] = _; rw [nI_clamp (show i < 2 ^ 31 by omega), hx9]; rfl) ?_
  exact retR_a hx hb hr (Or.inl ⟨_, rfl⟩) hlocks rfl dJ2_elementData_6
set_option maxRecDepth 100000 in
theorem mtJ2_get (l : Launch) (D : va_G) (k : Nat → ClassId) (Z : zZ) (hOK : zOK D zCl (zTys k) Z) (q e : Nat) (mc : Int32) (cap : Nat) (els : List Nat) (hcap : els.length ≤ cap) (hc31 : cap < 2 ^ 31) (i x : Nat) (hx9 : els[i]? = some x) : CtR l yJ2_get cJ2_get 2 (some (.object "java/lang/Object")) rJ2_2 Z D zCl [lsO q e mc els.length, lsA k e cap els] [.ref q, .int (nI i)] (some (.ref x)) := by
  refine CtR.of (by decide) (Nat.le_of_ble_eq_true rfl) ?_
  intro p e9 s m args below meth c hE hP hz ls hl
  obtain ⟨hx, hb, hr, hml, hown, hts, hlocks, hname⟩ := hE
  have hown : s.vm.findClass RJ2 = some m.cls := hown
  have hK := hOK.1 _ _ _ hz
  have hN := hOK.2.1 _ _ _ hz
  have hl : lv_has ls 2 [(0, .ref q), (1, .int (nI i))] := hl
  have hi9 : i < els.length := (List.getElem?_eq_some_iff.mp hx9).1
  refine lv_iload_n hx hb dJ2_get_0 rfl (lv_at hl 1 rfl) ?_
  refine lv_aload_n hx hb dJ2_get_1 rfl (lv_at hl 0 rfl) ?_
  refine va_get (ci := 15) (v := .int (nI els.length)) (C := RJ2) (T := TJ2) (N := 3) hx hb hts in_J2 hown hK hP 0 rfl rfl 2 (by decide) (hts _ q345) (fun _ h9 => h9) rfl dJ2_get_2 ?_
  refine cRS (ws := []) (As := [.int (nI i), .int (nI els.length)]) ⟨hx, hb, hml, hown, hts⟩ hOK hz va_S.rf zP0 (mtJ22_checkIndex l D k Z hOK (nI i) (nI els.length) (nI_pos (show i < 2 ^ 31 by omega)) (nI_lt hi9 (show els.length < 2 ^ 31 by omega))) (kJ22_checkIndex hts q474 rfl rfl ⟨Nat.le_of_ble_eq_true rfl, Nat.le_of_ble_eq_true rfl⟩) rfl hl.1 rfl (lv_room (Nat.le_of_ble_eq_true rfl)) ⟨Nat.le_of_ble_eq_true rfl, Nat.le_of_ble_eq_true rfl⟩ dJ2_get_5 ?_
  refine lv_pop hx hb dJ2_get_8 rfl ?_
  refine lv_aload_n hx hb dJ2_get_9 rfl (lv_at hl 0 rfl) ?_
  refine lv_iload_n hx hb dJ2_get_10 rfl (lv_at hl 1 rfl) ?_
  refine cRV (As := [.int (nI i)]) (ci := 15) ⟨hx, hb, hml, hown, hts⟩ hOK hz va_S.rf hP (mtJ2_elementData l D k Z hOK q e mc cap els hcap hc31 i x hx9) (kJ2_elementData hts q480 rfl rfl ⟨Nat.le_of_ble_eq_true rfl, Nat.le_of_ble_eq_true rfl⟩) 0 rfl rfl rfl hl.1 rfl (lv_room (Nat.le_of_ble_eq_true rfl)) ⟨Nat.le_of_ble_eq_true rfl, Nat.le_of_ble_eq_true rfl⟩ dJ2_get_11 ?_
  exact retR_a hx hb hr (Or.inl ⟨_, rfl⟩) hlocks rfl dJ2_get_14
theorem ls_clr (els : List Nat) (i : Nat) : va_up (fun j => if j < i then none else els[j]?) i none = fun j => if j < i + 1 then none else els[j]? := by
  funext j
  unfold va_up
  by_cases h : j = i
  · subst h
    rw [if_pos rfl, if_pos (by omega)]
  · rw [if_neg h]
    show (if j < i then none else els[j]?) = _
    by_cases q : j < i
    · rw [if_pos q, if_pos (by omega)]
    · rw [if_neg q, if_neg (by omega)]
def lsF (k : Nat → ClassId) (e cap : Nat) (f : Nat → Option Nat) : Nat × va_E := (e, .inl (k 4, cap, .inr (.inr (.inr (.inr f)))))
set_option maxRecDepth 100000 in
theorem mtJ2_clearA (l : Launch) (D : va_G) (k : Nat → ClassId) (Z : zZ) (hOK : zOK D zCl (zTys k) Z) (q e : Nat) (mc : Int32) (cap : Nat) (els : List Nat) (hcap : els.length ≤ cap) (hc31 : cap < 2 ^ 31) : CtW l yJ2_clear cJ2_clear 4 none rJ2_0 Z D zCl [lsO q e mc els.length, lsA k e cap els] [.ref q] (fun r' w' => r' = none ∧ w' = [lsO q e (mc + 1) 0, lsA k e cap []]) 0 0 := by
  refine CtW.of (by decide) (Nat.le_of_ble_eq_true rfl) ?_
  intro p e9 s m args below meth c A hE hA hP hD hS hz ls hl
  obtain ⟨hx, hb, hr, hml, hown, hts, hlocks, hname⟩ := hE
  have hown : s.vm.findClass RJ2 = some m.cls := hown
  have hK := hOK.1 _ _ _ hz
  have hN := hOK.2.1 _ _ _ hz
  have hl : lv_has ls 4 [(0, .ref q)] := hl
  refine lv_aload_n hx hb dJ2_clear_0 rfl (lv_at hl 0 rfl) ?_
  refine lv_dup hx hb dJ2_clear_1 rfl ?_
  refine va_get (ci := 15) (v := .int mc) (C := RJ2) (T := TJ2) (N := 3) hx hb hts in_J2 hown hK hP 0 rfl rfl 0 (by decide) (hts _ q347) (u_same (hts _ q348)) rfl dJ2_clear_2 ?_
  refine lv_iconst (v := (1 : Int32)) hx hb dJ2_clear_5 (by decide) ?_
  refine lv_iadd hx hb dJ2_clear_6 ?_
  refine va_put (ci := 15) (v := .int (mc + 1)) (ty := tyJ2 0) (C := RJ2) (T := TJ2) (N := 3) hx hb hts in_J2 tyJ2 tyJ2_ok nmJ2 hown hK hP hD hS 0 rfl rfl 0 (by decide) (hts _ q347) (u_same (hts _ q348)) rfl (tyJ2_ok 0 (by decide)) rfl rfl (Nat.le_of_ble_eq_true rfl) dJ2_clear_7 (fun H locs hP hD hS => ?_)
  have hP : va_P D zCl [lsO q e (mc + 1) els.length, lsA k e cap els] H := hP
  have hD : va_D A [lsO q e (mc + 1) els.length, lsA k e cap els] := hD
  refine lv_aload_n hx hb dJ2_clear_10 rfl (lv_at hl 0 rfl) ?_
  refine va_get (ci := 15) (v := .ref e) (C := RJ2) (T := TJ2) (N := 3) hx hb hts in_J2 hown hK hP 0 rfl rfl 1 (by decide) (hts _ q344) (fun _ h9 => h9) rfl dJ2_clear_11 ?_
  refine lv_astore_n (lv' := [(1, .ref e), (0, .ref q)]) hx hb dJ2_clear_14 rfl hl (by decide) rfl (fun ls hl => ?_)
  refine lv_aload_n hx hb dJ2_clear_15 rfl (lv_at hl 1 rfl) ?_
  refine va_get (ci := 15) (v := .int (nI els.length)) (C := RJ2) (T := TJ2) (N := 3) hx hb hts in_J2 hown hK hP 0 rfl rfl 2 (by decide) (hts _ q345) (fun _ h9 => h9) rfl dJ2_clear_16 ?_
  refine lv_istore_n (lv' := [(2, .int (nI els.length)), (1, .ref e), (0, .ref q)]) hx hb dJ2_clear_19 rfl hl (by decide) rfl (fun ls hl => ?_)
  refine lv_aload_n hx hb dJ2_clear_20 rfl (lv_at hl 2 rfl) ?_
  refine lv_iconst (v := (0 : Int32)) hx hb dJ2_clear_21 (by decide) ?_
  refine lv_dup_x1 hx hb dJ2_clear_22 rfl rfl ?_
  refine va_put (ci := 15) (v := .int (0 : Int32)) (ty := tyJ2 2) (C := RJ2) (T := TJ2) (N := 3) hx hb hts in_J2 tyJ2 tyJ2_ok nmJ2 hown hK hP hD hS 0 rfl rfl 2 (by decide) (hts _ q345) (fun _ h9 => h9) rfl (tyJ2_ok 2 (by decide)) rfl rfl (Nat.le_of_ble_eq_true rfl) dJ2_clear_23 (fun H locs hP hD hS => ?_)
  have hP : va_P D zCl [lsO q e (mc + 1) 0, lsA k e cap els] H := hP
  have hD : va_D A [lsO q e (mc + 1) 0, lsA k e cap els] := hD
  refine lv_istore_n (lv' := [(3, .int (0 : Int32)), (2, .int (nI els.length)), (1, .ref e), (0, .ref q)]) hx hb dJ2_clear_26 rfl hl (by decide) rfl (fun ls hl => ?_)
  have key : ∀ (j i : Nat), i + j = els.length → ∀ (H : Heap) (locs : List Loc), va_P D zCl [lsO q e (mc + 1) 0, lsF k e cap (fun j => if j < i then none else els[j]?)] H → va_D A [lsO q e (mc + 1) 0, lsF k e cap (fun j => if j < i then none else els[j]?)] → va_S A s.heap H locs → ∀ ls : Array Slot, lv_has ls 4 [(0, .ref q), (1, .ref e), (2, .int (nI els.length)), (3, .int (nI i))] → W p l e9 rJ2_0 s m args below meth c H locs 0 0 (MQ below (QWr (fun r' w' => r' = none ∧ w' = [lsO q e (mc + 1) 0, lsA k e cap []]) D zCl A) args s 0 0 A) (F0 m 27 ls []) := by
    intro j
    induction j with
    | zero =>
      intro i hi H locs hP hD hS ls hl
      refine lv_iload_n hx hb dJ2_clear_27 rfl (lv_at hl 3 rfl) ?_
      refine lv_iload_n hx hb dJ2_clear_28 rfl (lv_at hl 2 rfl) ?_
      have e9 : i = els.length := by omega
      subst e9
      refine lv_icmp_ge (tgt := 42) hx hb dJ2_clear_29 (by decide) (fun _ => ?_) (fun c1 => absurd (Int32.le_refl _) c1)
      have ef : (fun j => if j < els.length then none else els[j]?) = fun i => ([] : List Nat)[i]? := by
        funext j
        by_cases q9 : j < els.length
        · rw [if_pos q9]; rfl
        · rw [if_neg q9, List.getElem?_eq_none (by omega)]; rfl
      rw [ef] at hP hD
      exact retW_v hx hb hr hlocks hP hD hS ⟨rfl, rfl⟩ dJ2_clear_42
    | succ j ih =>
      intro i hi H locs hP hD hS ls hl
      refine lv_iload_n hx hb dJ2_clear_27 rfl (lv_at hl 3 rfl) ?_
      refine lv_iload_n hx hb dJ2_clear_28 rfl (lv_at hl 2 rfl) ?_
      refine lv_icmp_ge (tgt := 42) hx hb dJ2_clear_29 (by decide) (fun c1 => absurd c1 (nI_ge (by omega) (by omega))) (fun _ => ?_)
      refine lv_aload_n hx hb dJ2_clear_32 rfl (lv_at hl 1 rfl) ?_
      refine lv_iload_n hx hb dJ2_clear_33 rfl (lv_at hl 3 rfl) ?_
      refine lv_null hx hb dJ2_clear_34 ?_
      refine va_astqN hx hb hK hP hD hS 1 4 rfl rfl (vp_in_nI (show i < cap by omega) hc31) dJ2_clear_35 (fun H locs hP hD hS => ?_)
      have e8 : va_up (fun j => if j < i then none else els[j]?) (nI i).toNatClampNeg none = fun j => if j < i + 1 then none else els[j]? := by rw [nI_clamp (by omega), ls_clr]
      have hP : va_P D zCl [lsO q e (mc + 1) 0, lsF k e cap (va_up (fun j => if j < i then none else els[j]?) (nI i).toNatClampNeg none)] H := hP
      have hD : va_D A [lsO q e (mc + 1) 0, lsF k e cap (va_up (fun j => if j < i then none else els[j]?) (nI i).toNatClampNeg none)] := hD
      rw [e8] at hP hD
      refine lv_iinc (v := nI i + 1) (lv' := [(3, .int (nI i + 1)), (0, .ref q), (1, .ref e), (2, .int (nI els.length))]) hx hb dJ2_clear_36 hl (k := 3) rfl rfl (by decide) rfl (fun ls hl => ?_)
      rw [← nI_succ] at hl
      refine lv_goto (tgt := 27) hx hb dJ2_clear_39 (by decide) ?_
      exact ih (i + 1) (by omega) H locs hP hD hS ls (lv_sub hl [1, 2, 3, 0] rfl)
  have e7 : (fun i => els[i]?) = fun j => if j < 0 then none else els[j]? := by
    funext j
    rw [if_neg (by omega)]
  have hP : va_P D zCl [lsO q e (mc + 1) 0, lsF k e cap (fun i => els[i]?)] H := hP
  have hD : va_D A [lsO q e (mc + 1) 0, lsF k e cap (fun i => els[i]?)] := hD
  rw [e7] at hP hD
  exact key els.length 0 (by omega) H locs hP hD hS ls (lv_sub hl [3, 2, 1, 0] rfl)
def rLs (f c s l : Nat) : Room := { frames := f, cells := c, slots := s, locals := l }
/-- the objects that a list holds lie among these cells -/
def elIn (xs : va_W) (y : Nat) : Prop := ∃ (ci : Nat) (fs : List Value) (r : vw_C), (y, Sum.inr (ci, fs)) ∈ xs ∧ zCl[ci]? = some r ∧ Cond.castable r.1 "java/lang/Object" ∈ zN
theorem elIn.any {D : va_G} {tys : List (ClassId × FieldType)} {s : State} {H : Heap} {ws xs : va_W} {y : Nat} (h : elIn xs y) (hK : va_K D zCl tys s) (hN : ∀ w ∈ zN, va_Nw w s) (hP : va_P D zCl ws H) (hsub : ∀ q ∈ xs, q ∈ ws) : va_Any "java/lang/Object" s H y := by
  obtain ⟨ci, fs, r, h1, h2, h3⟩ := h
  obtain ⟨i, hi⟩ := List.getElem?_of_mem (hsub _ h1)
  exact zAny hK hN hP hi h2 h3
theorem elIn.mono {xs ys : va_W} {y : Nat} (h : elIn xs y) (hs : ∀ q ∈ xs, q ∈ ys) : elIn ys y := by
  obtain ⟨ci, fs, r, h1, h2, h3⟩ := h
  exact ⟨ci, fs, r, hs _ h1, h2, h3⟩
def lsCap (n : Nat) : Nat := n + max 1 (n / 2)
set_option maxRecDepth 100000 in
theorem mtJ7_newLength (l : Launch) (D : va_G) (k : Nat → ClassId) (Z : zZ) (hOK : zOK D zCl (zTys k) Z) (n : Nat) (h1 : 1 ≤ n) (hn : n < 2 ^ 29) : CtR l yJ7_newLength cJ7_newLength 4 (some .int) (rLs 1 0 0 40) Z D zCl [] [.int (nI n), .int (nI 1), .int (nI (n / 2))] (some (.int (nI (lsCap n)))) := by
  refine CtR.of (by decide) (Nat.le_of_ble_eq_true rfl) ?_
  intro p e9 s m args below meth c hE hP hz ls hl
  obtain ⟨hx, hb, hr, hml, hown, hts, hlocks, hname⟩ := hE
  have hown : s.vm.findClass RJ7 = some m.cls := hown
  have hK := hOK.1 _ _ _ hz
  have hN := hOK.2.1 _ _ _ hz
  have hl : lv_has ls 4 [(0, .int (nI n)), (1, .int (nI 1)), (2, .int (nI (n / 2)))] := hl
  refine lv_iload_n hx hb dJ7_newLength_0 rfl (lv_at hl 0 rfl) ?_
  refine lv_iload_n hx hb dJ7_newLength_1 rfl (lv_at hl 1 rfl) ?_
  refine lv_iload_n hx hb dJ7_newLength_2 rfl (lv_at hl 2 rfl) ?_
  refine va_mmax hx hb (hml.trans hl.1.symm) hown (hts _ q837) (hts _ q553) (hts _ q122) (hts _ q554) (Nat.le_of_ble_eq_true rfl) (Nat.le_of_ble_eq_true rfl) (Nat.le_of_ble_eq_true rfl) (Nat.le_of_ble_eq_true rfl) dJ7_newLength_3 ?_
  have e9 : zmx (nI 1) (nI (n / 2)) = nI (max 1 (n / 2)) := by
    unfold zmx
    by_cases h : 1 < n / 2
    · rw [if_pos (nI_lt h (by omega)), show max 1 (n / 2) = n / 2 by omega]
    · rw [if_neg (nI_nlt (by omega) (by omega)), show max 1 (n / 2) = 1 by omega]
  refine W.eq (g2 := F0 m 6 ls [.int (nI (max 1 (n / 2))), .int (nI n)]) (by show F0 m 6 ls [.int (zmx (nI 1) (nI (n / 2))), .int (nI n)] = _; rw [e9]) ?_
  refine lv_iadd hx hb dJ7_newLength_6 ?_
  refine W.eq (g2 := F0 m 7 ls [.int (nI (lsCap n))]) (by show F0 m 7 ls [.int (nI n + nI (max 1 (n / 2)))] = _; rw [nI_add]; rfl) ?_
  refine lv_istore_n (lv' := [(3, .int (nI (lsCap n))), (0, .int (nI n)), (1, .int (nI 1)), (2, .int (nI (n / 2)))]) hx hb dJ7_newLength_7 rfl hl (by decide) rfl (fun ls hl => ?_)
  have hc1 : lsCap n < 2 ^ 30 := by unfold lsCap; omega
  have hc0 : 0 < lsCap n := by unfold lsCap; omega
  refine lv_iconst (v := nI 0) hx hb dJ7_newLength_8 (by decide) ?_
  refine lv_iload_n hx hb dJ7_newLength_9 rfl (lv_at hl 0 rfl) ?_
  refine lv_icmp_ge (tgt := 21) hx hb dJ7_newLength_10 (by decide) (fun c1 => absurd c1 (nI_ge hc0 (by omega))) (fun _ => ?_)
  refine lv_iload_n hx hb dJ7_newLength_13 rfl (lv_at hl 0 rfl) ?_
  refine lv_ldc (v := (2147483639 : Int32)) hx hb hown (hts _ q838) dJ7_newLength_14 ?_
  refine lv_icmp_gt (tgt := 21) hx hb dJ7_newLength_16 (by decide) (fun c1 => absurd c1 (show ¬ nI 2147483639 < nI (lsCap n) from nI_nlt (by omega) (by omega))) (fun _ => ?_)
  refine lv_iload_n hx hb dJ7_newLength_19 rfl (lv_at hl 0 rfl) ?_
  exact retR_i hx hb hr hlocks rfl dJ7_newLength_20
set_option maxRecDepth 100000 in
theorem mtJ9_copyOf_3 (l : Launch) (D : va_G) (k : Nat → ClassId) (Z : zZ) (hOK : zOK D zCl (zTys k) Z) {e0 mi : Nat} (hLs : zLs Z e0 mi) (e n N9 : Nat) (els : List Nat) (xs : va_W) (hlen : els.length ≤ n) (hn : n ≤ N9) (hN : N9 < 2 ^ 27) (hel : ∀ y ∈ els, elIn xs y) : CtW l yJ9_copyOf_3 cJ9_copyOf_3 4 (some (.array (.object "java/lang/Object"))) (rLs 1 1 N9 60) Z D zCl (lsA k e n els :: xs) [.ref e, .int (nI N9), .ref mi] (fun r' w' => ∃ e', r' = some (.ref e') ∧ w' = (lsA k e n els :: lsA k e' N9 els :: xs)) 1 N9 := by
  refine CtW.of (by decide) (Nat.le_of_ble_eq_true rfl) ?_
  intro p e9 s m args below meth c A hE hA hP hD hS hz ls hl
  obtain ⟨hx, hb, hr, hml, hown, hts, hlocks, hname⟩ := hE
  have hown : s.vm.findClass RJ9 = some m.cls := hown
  have hK := hOK.1 _ _ _ hz
  have hN := hOK.2.1 _ _ _ hz
  have hl : lv_has ls 4 [(0, .ref e), (1, .int (nI N9)), (2, .ref mi)] := hl
  have hz9 := hLs _ _ _ hz
  refine lv_aload_n hx hb dJ9_copyOf_3_0 rfl (lv_at hl 2 rfl) ?_
  refine va_ldcM hx hb hown (hts _ q1491) hz9.2.2.2 dJ9_copyOf_3_1 ?_
  refine lv_acmp_ne (rx := some mi) (ry := some mi) (tgt := 13) hx hb dJ9_copyOf_3_3 (by decide) (fun c1 => absurd rfl c1) (fun _ => ?_)
  refine lv_iload_n hx hb dJ9_copyOf_3_6 rfl (lv_at hl 1 rfl) ?_
  refine va_newq (N' := N9) hx hb hown (hts _ q1493) hz9.1 hK hP hD hS hA (nI_pos (by omega)) (nI_clamp (by omega)) (by omega) (Nat.le_refl _) (by show 0 + N9 ≤ N9; omega) dJ9_copyOf_3_7 (fun e' cA H hK2 hP hD hS => ?_)
  obtain rfl := zcA hK2
  have hP := zperm hP (zp_last (lsA k e n els) xs (lsF k e' N9 (fun _ => none)))
  have hD := zpermD hD (zp_last (lsA k e n els) xs (lsF k e' N9 (fun _ => none)))
  refine lv_goto (tgt := 24) hx hb dJ9_copyOf_3_10 (by decide) ?_
  refine lv_astore_n (lv' := [(3, .ref e'), (0, .ref e), (1, .int (nI N9)), (2, .ref mi)]) hx hb dJ9_copyOf_3_24 rfl hl (by decide) rfl (fun ls hl => ?_)
  refine lv_aload_n hx hb dJ9_copyOf_3_25 rfl (lv_at hl 1 rfl) ?_
  refine lv_iconst (v := nI 0) hx hb dJ9_copyOf_3_26 (by decide) ?_
  refine lv_aload_n hx hb dJ9_copyOf_3_27 rfl (lv_at hl 0 rfl) ?_
  refine lv_iconst (v := nI 0) hx hb dJ9_copyOf_3_28 (by decide) ?_
  refine lv_aload_n hx hb dJ9_copyOf_3_29 rfl (lv_at hl 1 rfl) ?_
  refine va_alen (v := nI n) hx hb hK hP 0 4 rfl rfl rfl dJ9_copyOf_3_30 ?_
  refine lv_iload_n hx hb dJ9_copyOf_3_31 rfl (lv_at hl 2 rfl) ?_
  refine va_mmin hx hb (hml.trans hl.1.symm) hown (hts _ q853) (hts _ q550) (hts _ q122) (hts _ q551) (Nat.le_of_ble_eq_true rfl) (Nat.le_of_ble_eq_true rfl) (Nat.le_of_ble_eq_true rfl) (by show 0 + N9 ≤ N9; omega) dJ9_copyOf_3_32 ?_
  refine W.eq (g2 := F0 m 35 ls [.int (nI n), .int (nI 0), .ref e', .int (nI 0), .ref e]) (by show F0 m 35 ls [.int (if nI N9 < nI n then nI N9 else nI n), .int (nI 0), .ref e', .int (nI 0), .ref e] = _; rw [if_neg (nI_nlt hn (by omega))]) ?_
  have q0 : (nI 0).toNatClampNeg = 0 := by decide
  have q1 : (nI n).toNatClampNeg = n := nI_clamp (by omega)
  refine va_copyM hx hb (hml.trans hl.1.symm) hown (hts _ q854) (hts _ q443) (hts _ q442) (hts _ q116) hK hP hD hS 0 1 4 4 rfl rfl rfl rfl (by decide) (by decide) (nI_pos (by omega)) (by rw [q0, q1]; omega) (by rw [q0, q1]; omega) (fun i _ y hy => ?_) (Nat.le_of_ble_eq_true rfl) (Nat.le_of_ble_eq_true rfl) dJ9_copyOf_3_35 (fun H locs hP hD hS => ?_)
  · exact (hel y (List.mem_of_getElem? hy)).any hK hN hP (fun q hq => List.mem_cons_of_mem _ (List.mem_cons_of_mem _ hq))
  rw [q0, q1] at hP hD
  have ef : va_cpy (fun i => els[i]?) (fun _ => none) 0 0 n = fun i => els[i]? := by
    funext j
    unfold va_cpy
    by_cases q9 : 0 ≤ j ∧ j < 0 + n
    · rw [if_pos q9]; show els[0 + (j - 0)]? = _; rw [show 0 + (j - 0) = j by omega]
    · rw [if_neg q9, List.getElem?_eq_none (by omega)]
  have hP : va_P D zCl (lsA k e n els :: lsF k e' N9 (va_cpy (fun i => els[i]?) (fun _ => none) 0 0 n) :: xs) H := hP
  have hD : va_D A (lsA k e n els :: lsF k e' N9 (va_cpy (fun i => els[i]?) (fun _ => none) 0 0 n) :: xs) := hD
  rw [ef] at hP hD
  refine lv_aload_n hx hb dJ9_copyOf_3_38 rfl (lv_at hl 0 rfl) ?_
  refine W.widen (k := 1) (n := N9) (Nat.le_refl _) (by omega) ?_
  exact retW_a hx hb hr (Or.inr ⟨_, rfl⟩) hlocks hP hD hS ⟨e', rfl, rfl⟩ dJ9_copyOf_3_39
theorem zarr {D : va_G} {cl : List vw_C} {k : Nat → ClassId} {s : State} {H : Heap} {ws : va_W} {a n : Nat} {f : Nat → Option Nat} (hK : va_K D cl (zTys k) s) (hP : va_P D cl ws H) (q0 : Nat) (ha : ws[q0]? = some (a, .inl (k 4, n, .inr (.inr (.inr (.inr f)))))) : ∃ cell : Cell, H[a]? = some cell ∧ cell.vm.isStatics = false ∧ s.vm.findClass "[Ljava/lang/Object;" = some cell.cls := by
  obtain ⟨_, _, _, _, _, e⟩ := (hK.2 4 _ rfl).2
  exact ⟨_, hP q0 _ ha, rfl, e⟩
section ZC1
variable {p : Program} {l : Launch} {e : Env} {R : Room} {s : State} {m : MethodId} {args : Array Value} {below : List Frame} {meth : Method} {c : Code} {H : Heap} {locs : List Loc} {cells slots : Nat} {Q : State → Prop}
variable {pc : Nat} {ls : Array Slot} {rest st0 : List Value} {D : va_G} {cl : List vw_C} {tys : List (ClassId × FieldType)} {Z : zZ} {A : Nat → Prop} {ws : va_W} {P : Option Value → va_W → Prop} {mc ms : Nat} {cc : ByteArray}
variable {y : MethodName} {cy : ByteArray} {mL nL n index : Nat} {ret : Option FieldType} {rm : Room} {own : String} {As : List Value}
theorem cWS0 (S : CallFix p m c cc nL s args lw_all own) (hOK : zOK D cl tys Z) (hz : Z A s s.heap) (hS : va_S A s.heap H locs) (hA : ∀ q : Nat, s.heap.size ≤ q → A q) (hP : va_P D cl ws H) (hD : va_D A ws) (hM : CtW l y cy mL ret rm Z D cl ws As P mc ms) (cw : CallB R s args own index y cy mL ret (ws_ y cy mL ret) rm mc ms n ∧ (Cond.static y).before args s = true)
    (hn : As.length = n) (hl : ls.size = nL) (hst : st0 = As.reverse ++ rest) (hW : 2 * (F0 m pc ls st0).monitorRoom + (rest.map fun v => v.category).sum ≤ 8) (hf : cells + mc ≤ R.cells ∧ slots + ms ≤ R.slots) (hdg : decode cc pc = .ok (.invokestatic index, 3))
    (kk : ∀ (r : Option Value) (ws' : va_W) (H1 : Heap) (locs1 : List Loc), P r ws' → va_P D cl ws' H1 → va_D A ws' → va_S A s.heap H1 locs1 → W p l e R s m args below meth c H1 locs1 (cells + mc) (slots + ms) Q (F0 m (pc + 3) ls (r.toList ++ rest))) : W p l e R s m args below meth c H locs cells slots Q (F0 m pc ls st0) :=
  cWS [] ws [] S hOK hz hS hA (by simpa only [List.nil_append, List.append_nil] using hP) (by simpa only [List.nil_append, List.append_nil] using hD) hM cw hn hl hst hW hf hdg (fun r ws' H1 locs1 h1 h2 h3 h4 => kk r ws' H1 locs1 h1 (by simpa only [List.nil_append, List.append_nil] using h2) (by simpa only [List.nil_append, List.append_nil] using h3) h4)
end ZC1
set_option maxRecDepth 100000 in
theorem mtJ9_copyOf_2 (l : Launch) (D : va_G) (k : Nat → ClassId) (Z : zZ) (hOK : zOK D zCl (zTys k) Z) {e0 mi : Nat} (hLs : zLs Z e0 mi) (e n N9 : Nat) (els : List Nat) (xs : va_W) (hlen : els.length ≤ n) (hn : n ≤ N9) (hN9 : N9 < 2 ^ 27) (hel : ∀ y ∈ els, elIn xs y) : CtW l yJ9_copyOf_2 cJ9_copyOf_2 2 (some (.array (.object "java/lang/Object"))) (rLs 2 1 N9 100) Z D zCl (lsA k e n els :: xs) [.ref e, .int (nI N9)] (fun r' w' => ∃ e', r' = some (.ref e') ∧ w' = (lsA k e n els :: lsA k e' N9 els :: xs)) 1 N9 := by
  refine CtW.of (by decide) (Nat.le_of_ble_eq_true rfl) ?_
  intro p e9 s m args below meth c A hE hA hP hD hS hz ls hl
  obtain ⟨hx, hb, hr, hml, hown, hts, hlocks, hname⟩ := hE
  have hown : s.vm.findClass RJ9 = some m.cls := hown
  have hK := hOK.1 _ _ _ hz
  have hN := hOK.2.1 _ _ _ hz
  have hl : lv_has ls 2 [(0, .ref e), (1, .int (nI N9))] := hl
  refine lv_aload_n hx hb dJ9_copyOf_2_0 rfl (lv_at hl 0 rfl) ?_
  refine lv_iload_n hx hb dJ9_copyOf_2_1 rfl (lv_at hl 1 rfl) ?_
  refine lv_aload_n hx hb dJ9_copyOf_2_2 rfl (lv_at hl 0 rfl) ?_
  refine va_getC (C := "[Ljava/lang/Object;") (mi := mi) hx hb (hml.trans hl.1.symm) hown (hts _ q1459) (va_Nw.use rfl (hN _ (zN_of q2532 rfl))) (hts _ q2531) (hts _ q1460) (hts _ q1487) (hLs _ _ _ hz).2.2.2 (zarr hK hP 0 rfl) (Nat.le_of_ble_eq_true rfl) (Nat.le_of_ble_eq_true rfl) dJ9_copyOf_2_3 ?_
  refine cWS0 (As := [.ref e, .int (nI N9), .ref mi]) ⟨hx, hb, hml, hown, hts⟩ hOK hz hS hA hP hD (mtJ9_copyOf_3 l D k Z hOK hLs e n N9 els xs hlen hn hN9 hel) (kJ9_copyOf_3 hts q1488 rfl rfl ⟨Nat.le_of_ble_eq_true rfl, Nat.le_of_ble_eq_true rfl⟩) rfl hl.1 rfl (lv_room (Nat.le_of_ble_eq_true rfl)) ⟨by show 0 + 1 ≤ 1; omega, by show 0 + N9 ≤ N9; omega⟩ dJ9_copyOf_2_6 (fun r_ w_ H locs hq hP hD hS => ?_)
  obtain ⟨e', rfl, rfl⟩ := hq
  refine W.widen (k := 1) (n := N9) (by omega) (by omega) ?_
  exact retW_a hx hb hr (Or.inr ⟨_, rfl⟩) hlocks hP hD hS ⟨e', rfl, rfl⟩ dJ9_copyOf_2_9
set_option maxRecDepth 100000 in
theorem mtJ2_grow_2z (l : Launch) (D : va_G) (k : Nat → ClassId) (Z : zZ) (hOK : zOK D zCl (zTys k) Z) {e0 mi : Nat} (hLs : zLs Z e0 mi) (q : Nat) (mc : Int32) (xs : va_W) : CtW l yJ2_grow_2 cJ2_grow_2 4 (some (.array (.object "java/lang/Object"))) (rLs 1 1 10 60) Z D zCl (lsO q e0 mc 0 :: xs) [.ref q, .int (nI 1)] (fun r' w' => ∃ e', r' = some (.ref e') ∧ w' = (lsO q e' mc 0 :: lsA k e' 10 [] :: xs)) 1 10 := by
  refine CtW.of (by decide) (Nat.le_of_ble_eq_true rfl) ?_
  intro p e9 s m args below meth c A hE hA hP hD hS hz ls hl
  obtain ⟨hx, hb, hr, hml, hown, hts, hlocks, hname⟩ := hE
  have hown : s.vm.findClass RJ2 = some m.cls := hown
  have hK := hOK.1 _ _ _ hz
  have hN := hOK.2.1 _ _ _ hz
  have hl : lv_has ls 4 [(0, .ref q), (1, .int (nI 1))] := hl
  have hz9 := hLs _ _ _ hz
  refine lv_aload_n hx hb dJ2_grow_2_0 rfl (lv_at hl 0 rfl) ?_
  refine va_get (ci := 15) (v := .ref e0) (C := RJ2) (T := TJ2) (N := 3) hx hb hts in_J2 hown hK hP 0 rfl rfl 1 (by decide) (hts _ q344) (fun _ h9 => h9) rfl dJ2_grow_2_1 ?_
  refine va_tlen (v := nI 0) hx hb hz9.2.2.1 hS rfl dJ2_grow_2_4 ?_
  refine lv_istore_n (lv' := [(2, .int (nI 0)), (0, .ref q), (1, .int (nI 1))]) hx hb dJ2_grow_2_5 rfl hl (by decide) rfl (fun ls hl => ?_)
  refine lv_iload_n hx hb dJ2_grow_2_6 rfl (lv_at hl 0 rfl) ?_
  refine lv_if_gt (tgt := 20) hx hb dJ2_grow_2_7 (by decide) (fun c1 => absurd c1 (by decide)) (fun _ => ?_)
  refine lv_aload_n hx hb dJ2_grow_2_10 rfl (lv_at hl 1 rfl) ?_
  refine va_get (ci := 15) (v := .ref e0) (C := RJ2) (T := TJ2) (N := 3) hx hb hts in_J2 hown hK hP 0 rfl rfl 1 (by decide) (hts _ q344) (fun _ h9 => h9) rfl dJ2_grow_2_11 ?_
  refine va_gets hx hb hz9.2.1 hS hown (hts _ q342) (fun _ h9 => h9) dJ2_grow_2_14 ?_
  refine lv_acmp_eq (rx := some e0) (ry := some e0) (tgt := 45) hx hb dJ2_grow_2_17 (by decide) (fun _ => ?_) (fun c1 => absurd rfl c1)
  refine lv_aload_n hx hb dJ2_grow_2_45 rfl (lv_at hl 1 rfl) ?_
  refine lv_bipush (v := nI 10) hx hb dJ2_grow_2_46 (by decide) ?_
  refine lv_iload_n hx hb dJ2_grow_2_48 rfl (lv_at hl 2 rfl) ?_
  refine va_mmax hx hb (hml.trans hl.1.symm) hown (hts _ q1494) (hts _ q553) (hts _ q122) (hts _ q554) (Nat.le_of_ble_eq_true rfl) (Nat.le_of_ble_eq_true rfl) (Nat.le_of_ble_eq_true rfl) (Nat.le_of_ble_eq_true rfl) dJ2_grow_2_49 ?_
  refine W.eq (g2 := F0 m 52 ls [.int (nI 10), .ref q]) (by show F0 m 52 ls [.int (if nI 10 < nI 1 then nI 1 else nI 10), .ref q] = _; rw [if_neg (by decide)]) ?_
  refine va_newq (N' := 10) hx hb hown (hts _ q1495) hz9.1 hK hP hD hS hA (by decide) (by decide) (by decide) (Nat.le_of_ble_eq_true rfl) (Nat.le_of_ble_eq_true rfl) dJ2_grow_2_52 (fun e' cA H hK2 hP hD hS => ?_)
  obtain rfl := zcA hK2
  have hP := zperm hP (zp_last (lsO q e0 mc 0) xs (lsF k e' 10 (fun _ => none)))
  have hD := zpermD hD (zp_last (lsO q e0 mc 0) xs (lsF k e' 10 (fun _ => none)))
  refine lv_dup_x1 hx hb dJ2_grow_2_55 rfl rfl ?_
  refine va_put (ci := 15) (v := .ref e') (ty := tyJ2 1) (C := RJ2) (T := TJ2) (N := 3) hx hb hts in_J2 tyJ2 tyJ2_ok nmJ2 hown hK hP hD hS 0 rfl rfl 1 (by decide) (hts _ q344) (fun _ h9 => h9) rfl (tyJ2_ok 1 (by decide)) rfl rfl (Nat.le_of_ble_eq_true rfl) dJ2_grow_2_56 (fun H locs hP hD hS => ?_)
  have hP : va_P D zCl (lsO q e' mc 0 :: lsF k e' 10 (fun _ => none) :: xs) H := hP
  have hD : va_D A (lsO q e' mc 0 :: lsF k e' 10 (fun _ => none) :: xs) := hD
  have ef : (fun _ => none : Nat → Option Nat) = fun i => ([] : List Nat)[i]? := by
    funext j
    rfl
  rw [ef] at hP hD
  exact retW_a hx hb hr (Or.inr ⟨_, rfl⟩) hlocks hP hD hS ⟨e', rfl, rfl⟩ dJ2_grow_2_59
set_option maxRecDepth 100000 in
theorem mtJ2_grow_2 (l : Launch) (D : va_G) (k : Nat → ClassId) (Z : zZ) (hOK : zOK D zCl (zTys k) Z) {e0 mi : Nat} (hLs : zLs Z e0 mi) (q e : Nat) (mc : Int32) (n : Nat) (els : List Nat) (xs : va_W) (hlen : els.length = n) (h1 : 1 ≤ n) (hn : n < 2 ^ 25) (hel : ∀ y ∈ els, elIn xs y) : CtW l yJ2_grow_2 cJ2_grow_2 4 (some (.array (.object "java/lang/Object"))) (rLs 3 1 (lsCap n) 140) Z D zCl (lsO q e mc n :: lsA k e n els :: xs) [.ref q, .int (nI (n + 1))] (fun r' w' => ∃ e', r' = some (.ref e') ∧ w' = (lsO q e' mc n :: lsA k e' (lsCap n) els :: xs)) 1 (lsCap n) := by
  refine CtW.of (by decide) (Nat.le_of_ble_eq_true rfl) ?_
  intro p e9 s m args below meth c A hE hA hP hD hS hz ls hl
  obtain ⟨hx, hb, hr, hml, hown, hts, hlocks, hname⟩ := hE
  have hown : s.vm.findClass RJ2 = some m.cls := hown
  have hK := hOK.1 _ _ _ hz
  have hN := hOK.2.1 _ _ _ hz
  have hl : lv_has ls 4 [(0, .ref q), (1, .int (nI (n + 1)))] := hl
  have hz9 := hLs _ _ _ hz
  have hcap : lsCap n < 2 ^ 27 := by unfold lsCap; omega
  have hcap2 : n ≤ lsCap n := by unfold lsCap; omega
  refine lv_aload_n hx hb dJ2_grow_2_0 rfl (lv_at hl 0 rfl) ?_
  refine va_get (ci := 15) (v := .ref e) (C := RJ2) (T := TJ2) (N := 3) hx hb hts in_J2 hown hK hP 0 rfl rfl 1 (by decide) (hts _ q344) (fun _ h9 => h9) rfl dJ2_grow_2_1 ?_
  refine va_alen (v := nI n) hx hb hK hP 1 4 rfl rfl rfl dJ2_grow_2_4 ?_
  refine lv_istore_n (lv' := [(2, .int (nI n)), (0, .ref q), (1, .int (nI (n + 1)))]) hx hb dJ2_grow_2_5 rfl hl (by decide) rfl (fun ls hl => ?_)
  refine lv_iload_n hx hb dJ2_grow_2_6 rfl (lv_at hl 0 rfl) ?_
  refine lv_if_gt (tgt := 20) hx hb dJ2_grow_2_7 (by decide) (fun _ => ?_) (fun c1 => absurd (nI_lt (show 0 < n by omega) (by omega)) c1)
  refine lv_iload_n hx hb dJ2_grow_2_20 rfl (lv_at hl 0 rfl) ?_
  refine lv_iload_n hx hb dJ2_grow_2_21 rfl (lv_at hl 2 rfl) ?_
  refine lv_iload_n hx hb dJ2_grow_2_22 rfl (lv_at hl 0 rfl) ?_
  refine lv_isub hx hb dJ2_grow_2_23 ?_
  refine lv_iload_n hx hb dJ2_grow_2_24 rfl (lv_at hl 0 rfl) ?_
  refine lv_iconst (v := nI 1) hx hb dJ2_grow_2_25 (by decide) ?_
  refine lv_ishr hx hb dJ2_grow_2_26 ?_
  refine W.eq (g2 := F0 m 27 ls [.int (nI (n / 2)), .int (nI 1), .int (nI n)]) (by show F0 m 27 ls [.int (nI n >>> (nI 1 &&& 31)), .int (nI (n + 1) - nI n), .int (nI n)] = _; rw [pk_sub (by omega), show n + 1 - n = 1 by omega, pk_shrN (by omega) _ 1 (by decide)]) ?_
  refine cRS (ws := []) (As := [.int (nI n), .int (nI 1), .int (nI (n / 2))]) ⟨hx, hb, hml, hown, hts⟩ hOK hz hS zP0 (mtJ7_newLength l D k Z hOK n h1 (by omega)) (kJ7_newLength hts q1455 rfl rfl ⟨Nat.le_of_ble_eq_true rfl, Nat.le_of_ble_eq_true rfl⟩) rfl hl.1 rfl (lv_room (Nat.le_of_ble_eq_true rfl)) ⟨by show 0 ≤ 1; omega, Nat.zero_le _⟩ dJ2_grow_2_27 ?_
  refine lv_istore_n (lv' := [(3, .int (nI (lsCap n))), (2, .int (nI n)), (0, .ref q), (1, .int (nI (n + 1)))]) hx hb dJ2_grow_2_30 rfl hl (by decide) rfl (fun ls hl => ?_)
  refine lv_aload_n hx hb dJ2_grow_2_31 rfl (lv_at hl 2 rfl) ?_
  refine lv_aload_n hx hb dJ2_grow_2_32 rfl (lv_at hl 2 rfl) ?_
  refine va_get (ci := 15) (v := .ref e) (C := RJ2) (T := TJ2) (N := 3) hx hb hts in_J2 hown hK hP 0 rfl rfl 1 (by decide) (hts _ q344) (fun _ h9 => h9) rfl dJ2_grow_2_33 ?_
  refine lv_iload_n hx hb dJ2_grow_2_36 rfl (lv_at hl 0 rfl) ?_
  refine cWS [lsO q e mc n] (lsA k e n els :: xs) [] (As := [.ref e, .int (nI (lsCap n))]) ⟨hx, hb, hml, hown, hts⟩ hOK hz hS hA (by rw [List.append_nil]; exact hP) (by rw [List.append_nil]; exact hD) (mtJ9_copyOf_2 l D k Z hOK hLs e n (lsCap n) els xs (Nat.le_of_eq hlen) hcap2 hcap hel) (kJ9_copyOf_2 hts q1456 rfl rfl ⟨Nat.le_of_ble_eq_true rfl, Nat.le_of_ble_eq_true rfl⟩) rfl hl.1 rfl (lv_room (Nat.le_of_ble_eq_true rfl)) ⟨by show 0 + 1 ≤ 1; omega, by show 0 + lsCap n ≤ lsCap n; omega⟩ dJ2_grow_2_37 (fun r_ w_ H locs hq hP hD hS => ?_)
  obtain ⟨e', rfl, rfl⟩ := hq
  rw [List.append_nil] at hP hD
  have hP : va_P D zCl (lsO q e mc n :: lsA k e n els :: lsA k e' (lsCap n) els :: xs) H := hP
  have hD : va_D A (lsO q e mc n :: lsA k e n els :: lsA k e' (lsCap n) els :: xs) := hD
  have hP := zdrop1 hP
  have hD := zdrop1D hD
  refine lv_dup_x1 hx hb dJ2_grow_2_40 rfl rfl ?_
  refine va_put (ci := 15) (v := .ref e') (ty := tyJ2 1) (C := RJ2) (T := TJ2) (N := 3) hx hb hts in_J2 tyJ2 tyJ2_ok nmJ2 hown hK hP hD hS 0 rfl rfl 1 (by decide) (hts _ q344) (fun _ h9 => h9) rfl (tyJ2_ok 1 (by decide)) rfl rfl (Nat.le_of_ble_eq_true rfl) dJ2_grow_2_41 (fun H locs hP hD hS => ?_)
  have hP : va_P D zCl (lsO q e' mc n :: lsA k e' (lsCap n) els :: xs) H := hP
  have hD : va_D A (lsO q e' mc n :: lsA k e' (lsCap n) els :: xs) := hD
  refine W.widen (k := 1) (n := (lsCap n)) (by omega) (by omega) ?_
  exact retW_a hx hb hr (Or.inr ⟨_, rfl⟩) hlocks hP hD hS ⟨e', rfl, rfl⟩ dJ2_grow_2_44
set_option maxRecDepth 100000 in
theorem mtJ2_growz (l : Launch) (D : va_G) (k : Nat → ClassId) (Z : zZ) (hOK : zOK D zCl (zTys k) Z) {e0 mi : Nat} (hLs : zLs Z e0 mi) (q : Nat) (mc : Int32) (xs : va_W) : CtW l yJ2_grow cJ2_grow 1 (some (.array (.object "java/lang/Object"))) (rLs 2 1 10 90) Z D zCl (lsO q e0 mc 0 :: xs) [.ref q] (fun r' w' => ∃ e', r' = some (.ref e') ∧ w' = (lsO q e' mc 0 :: lsA k e' 10 [] :: xs)) 1 10 := by
  refine CtW.of (by decide) (Nat.le_of_ble_eq_true rfl) ?_
  intro p e9 s m args below meth c A hE hA hP hD hS hz ls hl
  obtain ⟨hx, hb, hr, hml, hown, hts, hlocks, hname⟩ := hE
  have hown : s.vm.findClass RJ2 = some m.cls := hown
  have hK := hOK.1 _ _ _ hz
  have hN := hOK.2.1 _ _ _ hz
  have hl : lv_has ls 1 [(0, .ref q)] := hl
  refine lv_aload_n hx hb dJ2_grow_0 rfl (lv_at hl 0 rfl) ?_
  refine lv_aload_n hx hb dJ2_grow_1 rfl (lv_at hl 0 rfl) ?_
  refine va_get (ci := 15) (v := .int (nI 0)) (C := RJ2) (T := TJ2) (N := 3) hx hb hts in_J2 hown hK hP 0 rfl rfl 2 (by decide) (hts _ q345) (fun _ h9 => h9) rfl dJ2_grow_2 ?_
  refine lv_iconst (v := nI 1) hx hb dJ2_grow_5 (by decide) ?_
  refine lv_iadd hx hb dJ2_grow_6 ?_
  refine cWV0 (As := [.int (nI 1)]) (ci := 15) ⟨hx, hb, hml, hown, hts⟩ hOK hz hS hA hP hD (mtJ2_grow_2z l D k Z hOK hLs q mc xs) (kJ2_grow_2 hts q1451 rfl rfl ⟨Nat.le_of_ble_eq_true rfl, Nat.le_of_ble_eq_true rfl⟩) 0 rfl rfl rfl hl.1 rfl (lv_room (Nat.le_of_ble_eq_true rfl)) ⟨Nat.le_of_ble_eq_true rfl, Nat.le_of_ble_eq_true rfl⟩ dJ2_grow_7 (fun r_ w_ H locs hq hP hD hS => ?_)
  obtain ⟨e', rfl, rfl⟩ := hq
  exact retW_a hx hb hr (Or.inr ⟨_, rfl⟩) hlocks hP hD hS ⟨e', rfl, rfl⟩ dJ2_grow_10
set_option maxRecDepth 100000 in
theorem mtJ2_grow (l : Launch) (D : va_G) (k : Nat → ClassId) (Z : zZ) (hOK : zOK D zCl (zTys k) Z) {e0 mi : Nat} (hLs : zLs Z e0 mi) (q e : Nat) (mc : Int32) (n : Nat) (els : List Nat) (xs : va_W) (hlen : els.length = n) (h1 : 1 ≤ n) (hn : n < 2 ^ 25) (hel : ∀ y ∈ els, elIn xs y) : CtW l yJ2_grow cJ2_grow 1 (some (.array (.object "java/lang/Object"))) (rLs 4 1 (lsCap n) 170) Z D zCl (lsO q e mc n :: lsA k e n els :: xs) [.ref q] (fun r' w' => ∃ e', r' = some (.ref e') ∧ w' = (lsO q e' mc n :: lsA k e' (lsCap n) els :: xs)) 1 (lsCap n) := by
  refine CtW.of (by decide) (Nat.le_of_ble_eq_true rfl) ?_
  intro p e9 s m args below meth c A hE hA hP hD hS hz ls hl
  obtain ⟨hx, hb, hr, hml, hown, hts, hlocks, hname⟩ := hE
  have hown : s.vm.findClass RJ2 = some m.cls := hown
  have hK := hOK.1 _ _ _ hz
  have hN := hOK.2.1 _ _ _ hz
  have hl : lv_has ls 1 [(0, .ref q)] := hl
  refine lv_aload_n hx hb dJ2_grow_0 rfl (lv_at hl 0 rfl) ?_
  refine lv_aload_n hx hb dJ2_grow_1 rfl (lv_at hl 0 rfl) ?_
  refine va_get (ci := 15) (v := .int (nI n)) (C := RJ2) (T := TJ2) (N := 3) hx hb hts in_J2 hown hK hP 0 rfl rfl 2 (by decide) (hts _ q345) (fun _ h9 => h9) rfl dJ2_grow_2 ?_
  refine lv_iconst (v := nI 1) hx hb dJ2_grow_5 (by decide) ?_
  refine lv_iadd hx hb dJ2_grow_6 ?_
  refine W.eq (g2 := F0 m 7 ls [.int (nI (n + 1)), .ref q]) (by rw [← nI_add]) ?_
  refine cWV0 (As := [.int (nI (n + 1))]) (ci := 15) ⟨hx, hb, hml, hown, hts⟩ hOK hz hS hA hP hD (mtJ2_grow_2 l D k Z hOK hLs q e mc n els xs hlen h1 hn hel) (kJ2_grow_2 hts q1451 rfl rfl ⟨Nat.le_of_ble_eq_true rfl, Nat.le_of_ble_eq_true rfl⟩) 0 rfl rfl rfl hl.1 rfl (lv_room (Nat.le_of_ble_eq_true rfl)) ⟨by show 0 + 1 ≤ 1; omega, by show 0 + lsCap n ≤ lsCap n; omega⟩ dJ2_grow_7 (fun r_ w_ H locs hq hP hD hS => ?_)
  obtain ⟨e', rfl, rfl⟩ := hq
  refine W.widen (k := 1) (n := (lsCap n)) (by omega) (by omega) ?_
  exact retW_a hx hb hr (Or.inr ⟨_, rfl⟩) hlocks hP hD hS ⟨e', rfl, rfl⟩ dJ2_grow_10
set_option maxRecDepth 100000 in
theorem mtJ2_add_2 (l : Launch) (D : va_G) (k : Nat → ClassId) (Z : zZ) (hOK : zOK D zCl (zTys k) Z) {e0 mi : Nat} (hLs : zLs Z e0 mi) (q e x : Nat) (mc : Int32) (n cap : Nat) (els : List Nat) (xs : va_W) (hlen : els.length = n) (hn : n < cap) (hc31 : cap < 2 ^ 26) (hx9 : elIn xs x) : CtW l yJ2_add_2 cJ2_add_2 4 none (rLs 0 0 0 0) Z D zCl (lsO q e mc n :: lsA k e cap els :: xs) [.ref q, .ref x, .ref e, .int (nI n)] (fun r' w' => r' = none ∧ w' = (lsO q e mc (n + 1) :: lsA k e cap (els ++ [x]) :: xs)) 0 0 := by
  refine CtW.of (by decide) (Nat.le_of_ble_eq_true rfl) ?_
  intro p e9 s m args below meth c A hE hA hP hD hS hz ls hl
  obtain ⟨hx, hb, hr, hml, hown, hts, hlocks, hname⟩ := hE
  have hown : s.vm.findClass RJ2 = some m.cls := hown
  have hK := hOK.1 _ _ _ hz
  have hN := hOK.2.1 _ _ _ hz
  have hl : lv_has ls 4 [(0, .ref q), (1, .ref x), (2, .ref e), (3, .int (nI n))] := hl
  refine lv_iload_n hx hb dJ2_add_2_0 rfl (lv_at hl 3 rfl) ?_
  refine lv_aload_n hx hb dJ2_add_2_1 rfl (lv_at hl 2 rfl) ?_
  refine va_alen (v := nI cap) hx hb hK hP 1 4 rfl rfl rfl dJ2_add_2_2 ?_
  refine lv_icmp_ne (tgt := 11) hx hb dJ2_add_2_3 (by decide) (fun _ => ?_) (fun c1 => absurd c1 (fun h => by have := (nI_eq (by omega) (by omega)).mp h; omega))
  refine lv_aload_n hx hb dJ2_add_2_11 rfl (lv_at hl 2 rfl) ?_
  refine lv_iload_n hx hb dJ2_add_2_12 rfl (lv_at hl 3 rfl) ?_
  refine lv_aload_n hx hb dJ2_add_2_13 rfl (lv_at hl 1 rfl) ?_
  refine va_astqM hx hb hK hP hD hS 1 4 rfl rfl (hx9.any hK hN hP (fun q hq => List.mem_cons_of_mem _ (List.mem_cons_of_mem _ hq))) (vp_in_nI (show n < cap by omega) (by omega)) dJ2_add_2_14 (fun H locs hP hD hS => ?_)
  have ea : va_up (fun i => els[i]?) (nI n).toNatClampNeg (some x) = fun i => (els ++ [x])[i]? := by rw [nI_clamp (by omega)]; rw [← hlen]; exact ls_put _ _
  have hP : va_P D zCl (lsO q e mc n :: lsF k e cap (va_up (fun i => els[i]?) (nI n).toNatClampNeg (some x)) :: xs) H := hP
  have hD : va_D A (lsO q e mc n :: lsF k e cap (va_up (fun i => els[i]?) (nI n).toNatClampNeg (some x)) :: xs) := hD
  rw [ea] at hP hD
  refine lv_aload_n hx hb dJ2_add_2_15 rfl (lv_at hl 0 rfl) ?_
  refine lv_iload_n hx hb dJ2_add_2_16 rfl (lv_at hl 3 rfl) ?_
  refine lv_iconst (v := nI 1) hx hb dJ2_add_2_17 (by decide) ?_
  refine lv_iadd hx hb dJ2_add_2_18 ?_
  refine W.eq (g2 := F0 m 19 ls [.int (nI (n + 1)), .ref q]) (by show F0 m 19 ls [.int (nI n + nI 1), .ref q] = _; rw [nI_add]) ?_
  refine va_put (ci := 15) (v := .int (nI (n + 1))) (ty := tyJ2 2) (C := RJ2) (T := TJ2) (N := 3) hx hb hts in_J2 tyJ2 tyJ2_ok nmJ2 hown hK hP hD hS 0 rfl rfl 2 (by decide) (hts _ q345) (fun _ h9 => h9) rfl (tyJ2_ok 2 (by decide)) rfl rfl (Nat.le_of_ble_eq_true rfl) dJ2_add_2_19 (fun H locs hP hD hS => ?_)
  have hP : va_P D zCl (lsO q e mc (n + 1) :: lsA k e cap (els ++ [x]) :: xs) H := hP
  have hD : va_D A (lsO q e mc (n + 1) :: lsA k e cap (els ++ [x]) :: xs) := hD
  exact retW_v hx hb hr hlocks hP hD hS ⟨rfl, rfl⟩ dJ2_add_2_22
set_option maxRecDepth 100000 in
theorem mtJ2_add_2z (l : Launch) (D : va_G) (k : Nat → ClassId) (Z : zZ) (hOK : zOK D zCl (zTys k) Z) {e0 mi : Nat} (hLs : zLs Z e0 mi) (q x : Nat) (mc : Int32) (xs : va_W) (hx9 : elIn xs x) : CtW l yJ2_add_2 cJ2_add_2 4 none (rLs 3 1 10 120) Z D zCl (lsO q e0 mc 0 :: xs) [.ref q, .ref x, .ref e0, .int (nI 0)] (fun r' w' => ∃ e', r' = none ∧ w' = (lsO q e' mc (0 + 1) :: lsA k e' 10 ([] ++ [x]) :: xs)) 1 10 := by
  refine CtW.of (by decide) (Nat.le_of_ble_eq_true rfl) ?_
  intro p e9 s m args below meth c A hE hA hP hD hS hz ls hl
  obtain ⟨hx, hb, hr, hml, hown, hts, hlocks, hname⟩ := hE
  have hown : s.vm.findClass RJ2 = some m.cls := hown
  have hK := hOK.1 _ _ _ hz
  have hN := hOK.2.1 _ _ _ hz
  have hl : lv_has ls 4 [(0, .ref q), (1, .ref x), (2, .ref e0), (3, .int (nI 0))] := hl
  have hz9 := hLs _ _ _ hz
  refine lv_iload_n hx hb dJ2_add_2_0 rfl (lv_at hl 3 rfl) ?_
  refine lv_aload_n hx hb dJ2_add_2_1 rfl (lv_at hl 2 rfl) ?_
  refine va_tlen (v := nI 0) hx hb hz9.2.2.1 hS rfl dJ2_add_2_2 ?_
  refine lv_icmp_ne (tgt := 11) hx hb dJ2_add_2_3 (by decide) (fun c1 => absurd rfl c1) (fun _ => ?_)
  refine lv_aload_n hx hb dJ2_add_2_6 rfl (lv_at hl 0 rfl) ?_
  refine cWV0 (As := []) (ci := 15) ⟨hx, hb, hml, hown, hts⟩ hOK hz hS hA hP hD (mtJ2_growz l D k Z hOK hLs q mc xs) (kJ2_grow hts q1447 rfl rfl ⟨Nat.le_of_ble_eq_true rfl, Nat.le_of_ble_eq_true rfl⟩) 0 rfl rfl rfl hl.1 rfl (lv_room (Nat.le_of_ble_eq_true rfl)) ⟨Nat.le_of_ble_eq_true rfl, Nat.le_of_ble_eq_true rfl⟩ dJ2_add_2_7 (fun r_ w_ H locs hq hP hD hS => ?_)
  obtain ⟨e', rfl, rfl⟩ := hq
  refine lv_astore_n (lv' := [(2, .ref e'), (0, .ref q), (1, .ref x), (3, .int (nI 0))]) hx hb dJ2_add_2_10 rfl hl (by decide) rfl (fun ls hl => ?_)
  refine lv_aload_n hx hb dJ2_add_2_11 rfl (lv_at hl 0 rfl) ?_
  refine lv_iload_n hx hb dJ2_add_2_12 rfl (lv_at hl 3 rfl) ?_
  refine lv_aload_n hx hb dJ2_add_2_13 rfl (lv_at hl 2 rfl) ?_
  refine va_astqM hx hb hK hP hD hS 1 4 rfl rfl (hx9.any hK hN hP (fun q hq => List.mem_cons_of_mem _ (List.mem_cons_of_mem _ hq))) (vp_in_nI (show 0 < 10 by omega) (by omega)) dJ2_add_2_14 (fun H locs hP hD hS => ?_)
  have ea : va_up (fun i => ([] : List Nat)[i]?) (nI 0).toNatClampNeg (some x) = fun i => (([] : List Nat) ++ [x])[i]? := by rw [nI_clamp (by omega)]; exact ls_put [] x
  have hP : va_P D zCl (lsO q e' mc 0 :: lsF k e' 10 (va_up (fun i => ([] : List Nat)[i]?) (nI 0).toNatClampNeg (some x)) :: xs) H := hP
  have hD : va_D A (lsO q e' mc 0 :: lsF k e' 10 (va_up (fun i => ([] : List Nat)[i]?) (nI 0).toNatClampNeg (some x)) :: xs) := hD
  rw [ea] at hP hD
  refine lv_aload_n hx hb dJ2_add_2_15 rfl (lv_at hl 1 rfl) ?_
  refine lv_iload_n hx hb dJ2_add_2_16 rfl (lv_at hl 3 rfl) ?_
  refine lv_iconst (v := nI 1) hx hb dJ2_add_2_17 (by decide) ?_
  refine lv_iadd hx hb dJ2_add_2_18 ?_
  refine W.eq (g2 := F0 m 19 ls [.int (nI (0 + 1)), .ref q]) (by show F0 m 19 ls [.int (nI 0 + nI 1), .ref q] = _; rw [nI_add]) ?_
  refine va_put (ci := 15) (v := .int (nI (0 + 1))) (ty := tyJ2 2) (C := RJ2) (T := TJ2) (N := 3) hx hb hts in_J2 tyJ2 tyJ2_ok nmJ2 hown hK hP hD hS 0 rfl rfl 2 (by decide) (hts _ q345) (fun _ h9 => h9) rfl (tyJ2_ok 2 (by decide)) rfl rfl (Nat.le_of_ble_eq_true rfl) dJ2_add_2_19 (fun H locs hP hD hS => ?_)
  have hP : va_P D zCl (lsO q e' mc (0 + 1) :: lsA k e' 10 (([] : List Nat) ++ [x]) :: xs) H := hP
  have hD : va_D A (lsO q e' mc (0 + 1) :: lsA k e' 10 (([] : List Nat) ++ [x]) :: xs) := hD
  exact retW_v hx hb hr hlocks hP hD hS ⟨e', rfl, rfl⟩ dJ2_add_2_22
set_option maxRecDepth 100000 in
theorem mtJ2_add_2g (l : Launch) (D : va_G) (k : Nat → ClassId) (Z : zZ) (hOK : zOK D zCl (zTys k) Z) {e0 mi : Nat} (hLs : zLs Z e0 mi) (q e x : Nat) (mc : Int32) (n : Nat) (els : List Nat) (xs : va_W) (hlen : els.length = n) (h1 : 1 ≤ n) (hn : n < 2 ^ 25) (hel : ∀ y ∈ els, elIn xs y) (hx9 : elIn xs x) : CtW l yJ2_add_2 cJ2_add_2 4 none (rLs 5 1 (lsCap n) 200) Z D zCl (lsO q e mc n :: lsA k e n els :: xs) [.ref q, .ref x, .ref e, .int (nI n)] (fun r' w' => ∃ e', r' = none ∧ w' = (lsO q e' mc (n + 1) :: lsA k e' (lsCap n) (els ++ [x]) :: xs)) 1 (lsCap n) := by
  refine CtW.of (by decide) (Nat.le_of_ble_eq_true rfl) ?_
  intro p e9 s m args below meth c A hE hA hP hD hS hz ls hl
  obtain ⟨hx, hb, hr, hml, hown, hts, hlocks, hname⟩ := hE
  have hown : s.vm.findClass RJ2 = some m.cls := hown
  have hK := hOK.1 _ _ _ hz
  have hN := hOK.2.1 _ _ _ hz
  have hl : lv_has ls 4 [(0, .ref q), (1, .ref x), (2, .ref e), (3, .int (nI n))] := hl
  have hcap : lsCap n < 2 ^ 27 := by unfold lsCap; omega
  have hcap2 : n < lsCap n := by unfold lsCap; omega
  refine lv_iload_n hx hb dJ2_add_2_0 rfl (lv_at hl 3 rfl) ?_
  refine lv_aload_n hx hb dJ2_add_2_1 rfl (lv_at hl 2 rfl) ?_
  refine va_alen (v := nI n) hx hb hK hP 1 4 rfl rfl rfl dJ2_add_2_2 ?_
  refine lv_icmp_ne (tgt := 11) hx hb dJ2_add_2_3 (by decide) (fun c1 => absurd rfl c1) (fun _ => ?_)
  refine lv_aload_n hx hb dJ2_add_2_6 rfl (lv_at hl 0 rfl) ?_
  refine cWV0 (As := []) (ci := 15) ⟨hx, hb, hml, hown, hts⟩ hOK hz hS hA hP hD (mtJ2_grow l D k Z hOK hLs q e mc n els xs hlen h1 hn hel) (kJ2_grow hts q1447 rfl rfl ⟨Nat.le_of_ble_eq_true rfl, Nat.le_of_ble_eq_true rfl⟩) 0 rfl rfl rfl hl.1 rfl (lv_room (Nat.le_of_ble_eq_true rfl)) ⟨by show 0 + 1 ≤ 1; omega, by show 0 + lsCap n ≤ lsCap n; omega⟩ dJ2_add_2_7 (fun r_ w_ H locs hq hP hD hS => ?_)
  obtain ⟨e', rfl, rfl⟩ := hq
  refine lv_astore_n (lv' := [(2, .ref e'), (0, .ref q), (1, .ref x), (3, .int (nI n))]) hx hb dJ2_add_2_10 rfl hl (by decide) rfl (fun ls hl => ?_)
  refine lv_aload_n hx hb dJ2_add_2_11 rfl (lv_at hl 0 rfl) ?_
  refine lv_iload_n hx hb dJ2_add_2_12 rfl (lv_at hl 3 rfl) ?_
  refine lv_aload_n hx hb dJ2_add_2_13 rfl (lv_at hl 2 rfl) ?_
  refine va_astqM hx hb hK hP hD hS 1 4 rfl rfl (hx9.any hK hN hP (fun q hq => List.mem_cons_of_mem _ (List.mem_cons_of_mem _ hq))) (vp_in_nI (show n < (lsCap n) by omega) (by omega)) dJ2_add_2_14 (fun H locs hP hD hS => ?_)
  have ea : va_up (fun i => els[i]?) (nI n).toNatClampNeg (some x) = fun i => (els ++ [x])[i]? := by rw [nI_clamp (by omega)]; rw [← hlen]; exact ls_put _ _
  have hP : va_P D zCl (lsO q e' mc n :: lsF k e' (lsCap n) (va_up (fun i => els[i]?) (nI n).toNatClampNeg (some x)) :: xs) H := hP
  have hD : va_D A (lsO q e' mc n :: lsF k e' (lsCap n) (va_up (fun i => els[i]?) (nI n).toNatClampNeg (some x)) :: xs) := hD
  rw [ea] at hP hD
  refine lv_aload_n hx hb dJ2_add_2_15 rfl (lv_at hl 1 rfl) ?_
  refine lv_iload_n hx hb dJ2_add_2_16 rfl (lv_at hl 3 rfl) ?_
  refine lv_iconst (v := nI 1) hx hb dJ2_add_2_17 (by decide) ?_
  refine lv_iadd hx hb dJ2_add_2_18 ?_
  refine W.eq (g2 := F0 m 19 ls [.int (nI (n + 1)), .ref q]) (by show F0 m 19 ls [.int (nI n + nI 1), .ref q] = _; rw [nI_add]) ?_
  refine va_put (ci := 15) (v := .int (nI (n + 1))) (ty := tyJ2 2) (C := RJ2) (T := TJ2) (N := 3) hx hb hts in_J2 tyJ2 tyJ2_ok nmJ2 hown hK hP hD hS 0 rfl rfl 2 (by decide) (hts _ q345) (fun _ h9 => h9) rfl (tyJ2_ok 2 (by decide)) rfl rfl (Nat.le_of_ble_eq_true rfl) dJ2_add_2_19 (fun H locs hP hD hS => ?_)
  have hP : va_P D zCl (lsO q e' mc (n + 1) :: lsA k e' (lsCap n) (els ++ [x]) :: xs) H := hP
  have hD : va_D A (lsO q e' mc (n + 1) :: lsA k e' (lsCap n) (els ++ [x]) :: xs) := hD
  refine W.widen (k := 1) (n := (lsCap n)) (by omega) (by omega) ?_
  exact retW_v hx hb hr hlocks hP hD hS ⟨e', rfl, rfl⟩ dJ2_add_2_22
set_option maxRecDepth 100000 in
theorem mtJ2_addn (l : Launch) (D : va_G) (k : Nat → ClassId) (Z : zZ) (hOK : zOK D zCl (zTys k) Z) {e0 mi : Nat} (hLs : zLs Z e0 mi) (q e x : Nat) (mc : Int32) (n cap : Nat) (els : List Nat) (xs : va_W) (hlen : els.length = n) (hn : n < cap) (hc31 : cap < 2 ^ 26) (hx9 : elIn xs x) : CtW l yJ2_add cJ2_add 2 (some .boolean) (rLs 1 0 0 30) Z D zCl (lsO q e mc n :: lsA k e cap els :: xs) [.ref q, .ref x] (fun r' w' => r' = some (.int (bz true)) ∧ w' = (lsO q e (mc + nI 1) (n + 1) :: lsA k e cap (els ++ [x]) :: xs)) 0 0 := by
  refine CtW.of (by decide) (Nat.le_of_ble_eq_true rfl) ?_
  intro p e9 s m args below meth c A hE hA hP hD hS hz ls hl
  obtain ⟨hx, hb, hr, hml, hown, hts, hlocks, hname⟩ := hE
  have hown : s.vm.findClass RJ2 = some m.cls := hown
  have hK := hOK.1 _ _ _ hz
  have hN := hOK.2.1 _ _ _ hz
  have hl : lv_has ls 2 [(0, .ref q), (1, .ref x)] := hl
  refine lv_aload_n hx hb dJ2_add_0 rfl (lv_at hl 0 rfl) ?_
  refine lv_dup hx hb dJ2_add_1 rfl ?_
  refine va_get (ci := 15) (v := .int mc) (C := RJ2) (T := TJ2) (N := 3) hx hb hts in_J2 hown hK hP 0 rfl rfl 0 (by decide) (hts _ q347) (u_same (hts _ q348)) rfl dJ2_add_2 ?_
  refine lv_iconst (v := nI 1) hx hb dJ2_add_5 (by decide) ?_
  refine lv_iadd hx hb dJ2_add_6 ?_
  refine va_put (ci := 15) (v := .int (mc + nI 1)) (ty := tyJ2 0) (C := RJ2) (T := TJ2) (N := 3) hx hb hts in_J2 tyJ2 tyJ2_ok nmJ2 hown hK hP hD hS 0 rfl rfl 0 (by decide) (hts _ q347) (u_same (hts _ q348)) rfl (tyJ2_ok 0 (by decide)) rfl rfl (Nat.le_of_ble_eq_true rfl) dJ2_add_7 (fun H locs hP hD hS => ?_)
  have hP : va_P D zCl (lsO q e (mc + nI 1) n :: lsA k e cap els :: xs) H := hP
  have hD : va_D A (lsO q e (mc + nI 1) n :: lsA k e cap els :: xs) := hD
  refine lv_aload_n hx hb dJ2_add_10 rfl (lv_at hl 0 rfl) ?_
  refine lv_aload_n hx hb dJ2_add_11 rfl (lv_at hl 1 rfl) ?_
  refine lv_aload_n hx hb dJ2_add_12 rfl (lv_at hl 0 rfl) ?_
  refine va_get (ci := 15) (v := .ref e) (C := RJ2) (T := TJ2) (N := 3) hx hb hts in_J2 hown hK hP 0 rfl rfl 1 (by decide) (hts _ q344) (fun _ h9 => h9) rfl dJ2_add_13 ?_
  refine lv_aload_n hx hb dJ2_add_16 rfl (lv_at hl 0 rfl) ?_
  refine va_get (ci := 15) (v := .int (nI n)) (C := RJ2) (T := TJ2) (N := 3) hx hb hts in_J2 hown hK hP 0 rfl rfl 2 (by decide) (hts _ q345) (fun _ h9 => h9) rfl dJ2_add_17 ?_
  refine cWV0 (As := [.ref x, .ref e, .int (nI n)]) (ci := 15) ⟨hx, hb, hml, hown, hts⟩ hOK hz hS hA hP hD (mtJ2_add_2 l D k Z hOK hLs q e x (mc + nI 1) n cap els xs hlen hn hc31 hx9) (kJ2_add_2 hts q1443 rfl rfl ⟨Nat.le_of_ble_eq_true rfl, Nat.le_of_ble_eq_true rfl⟩) 0 rfl rfl rfl hl.1 rfl (lv_room (Nat.le_of_ble_eq_true rfl)) ⟨Nat.le_of_ble_eq_true rfl, Nat.le_of_ble_eq_true rfl⟩ dJ2_add_20 (fun r_ w_ H locs hq hP hD hS => ?_)
  obtain ⟨rfl, rfl⟩ := hq
  refine lv_iconst (v := nI 1) hx hb dJ2_add_23 (by decide) ?_
  exact retW_z (v := true) hx hb hr hlocks hP hD hS ⟨rfl, rfl⟩ dJ2_add_24
set_option maxRecDepth 100000 in
theorem mtJ2_addz (l : Launch) (D : va_G) (k : Nat → ClassId) (Z : zZ) (hOK : zOK D zCl (zTys k) Z) {e0 mi : Nat} (hLs : zLs Z e0 mi) (q x : Nat) (mc : Int32) (xs : va_W) (hx9 : elIn xs x) : CtW l yJ2_add cJ2_add 2 (some .boolean) (rLs 4 1 10 150) Z D zCl (lsO q e0 mc 0 :: xs) [.ref q, .ref x] (fun r' w' => ∃ e', r' = some (.int (bz true)) ∧ w' = (lsO q e' (mc + nI 1) (0 + 1) :: lsA k e' 10 ([] ++ [x]) :: xs)) 1 10 := by
  refine CtW.of (by decide) (Nat.le_of_ble_eq_true rfl) ?_
  intro p e9 s m args below meth c A hE hA hP hD hS hz ls hl
  obtain ⟨hx, hb, hr, hml, hown, hts, hlocks, hname⟩ := hE
  have hown : s.vm.findClass RJ2 = some m.cls := hown
  have hK := hOK.1 _ _ _ hz
  have hN := hOK.2.1 _ _ _ hz
  have hl : lv_has ls 2 [(0, .ref q), (1, .ref x)] := hl
  refine lv_aload_n hx hb dJ2_add_0 rfl (lv_at hl 0 rfl) ?_
  refine lv_dup hx hb dJ2_add_1 rfl ?_
  refine va_get (ci := 15) (v := .int mc) (C := RJ2) (T := TJ2) (N := 3) hx hb hts in_J2 hown hK hP 0 rfl rfl 0 (by decide) (hts _ q347) (u_same (hts _ q348)) rfl dJ2_add_2 ?_
  refine lv_iconst (v := nI 1) hx hb dJ2_add_5 (by decide) ?_
  refine lv_iadd hx hb dJ2_add_6 ?_
  refine va_put (ci := 15) (v := .int (mc + nI 1)) (ty := tyJ2 0) (C := RJ2) (T := TJ2) (N := 3) hx hb hts in_J2 tyJ2 tyJ2_ok nmJ2 hown hK hP hD hS 0 rfl rfl 0 (by decide) (hts _ q347) (u_same (hts _ q348)) rfl (tyJ2_ok 0 (by decide)) rfl rfl (Nat.le_of_ble_eq_true rfl) dJ2_add_7 (fun H locs hP hD hS => ?_)
  have hP : va_P D zCl (lsO q e0 (mc + nI 1) 0 :: xs) H := hP
  have hD : va_D A (lsO q e0 (mc + nI 1) 0 :: xs) := hD
  refine lv_aload_n hx hb dJ2_add_10 rfl (lv_at hl 0 rfl) ?_
  refine lv_aload_n hx hb dJ2_add_11 rfl (lv_at hl 1 rfl) ?_
  refine lv_aload_n hx hb dJ2_add_12 rfl (lv_at hl 0 rfl) ?_
  refine va_get (ci := 15) (v := .ref e0) (C := RJ2) (T := TJ2) (N := 3) hx hb hts in_J2 hown hK hP 0 rfl rfl 1 (by decide) (hts _ q344) (fun _ h9 => h9) rfl dJ2_add_13 ?_
  refine lv_aload_n hx hb dJ2_add_16 rfl (lv_at hl 0 rfl) ?_
  refine va_get (ci := 15) (v := .int (nI 0)) (C := RJ2) (T := TJ2) (N := 3) hx hb hts in_J2 hown hK hP 0 rfl rfl 2 (by decide) (hts _ q345) (fun _ h9 => h9) rfl dJ2_add_17 ?_
  refine cWV0 (As := [.ref x, .ref e0, .int (nI 0)]) (ci := 15) ⟨hx, hb, hml, hown, hts⟩ hOK hz hS hA hP hD (mtJ2_add_2z l D k Z hOK hLs q x (mc + nI 1) xs hx9) (kJ2_add_2 hts q1443 rfl rfl ⟨Nat.le_of_ble_eq_true rfl, Nat.le_of_ble_eq_true rfl⟩) 0 rfl rfl rfl hl.1 rfl (lv_room (Nat.le_of_ble_eq_true rfl)) ⟨Nat.le_of_ble_eq_true rfl, Nat.le_of_ble_eq_true rfl⟩ dJ2_add_20 (fun r_ w_ H locs hq hP hD hS => ?_)
  obtain ⟨e', rfl, rfl⟩ := hq
  refine lv_iconst (v := nI 1) hx hb dJ2_add_23 (by decide) ?_
  exact retW_z (v := true) hx hb hr hlocks hP hD hS ⟨e', rfl, rfl⟩ dJ2_add_24
set_option maxRecDepth 100000 in
theorem mtJ2_addg (l : Launch) (D : va_G) (k : Nat → ClassId) (Z : zZ) (hOK : zOK D zCl (zTys k) Z) {e0 mi : Nat} (hLs : zLs Z e0 mi) (q e x : Nat) (mc : Int32) (n : Nat) (els : List Nat) (xs : va_W) (hlen : els.length = n) (h1 : 1 ≤ n) (hn : n < 2 ^ 25) (hel : ∀ y ∈ els, elIn xs y) (hx9 : elIn xs x) : CtW l yJ2_add cJ2_add 2 (some .boolean) (rLs 6 1 (lsCap n) 230) Z D zCl (lsO q e mc n :: lsA k e n els :: xs) [.ref q, .ref x] (fun r' w' => ∃ e', r' = some (.int (bz true)) ∧ w' = (lsO q e' (mc + nI 1) (n + 1) :: lsA k e' (lsCap n) (els ++ [x]) :: xs)) 1 (lsCap n) := by
  refine CtW.of (by decide) (Nat.le_of_ble_eq_true rfl) ?_
  intro p e9 s m args below meth c A hE hA hP hD hS hz ls hl
  obtain ⟨hx, hb, hr, hml, hown, hts, hlocks, hname⟩ := hE
  have hown : s.vm.findClass RJ2 = some m.cls := hown
  have hK := hOK.1 _ _ _ hz
  have hN := hOK.2.1 _ _ _ hz
  have hl : lv_has ls 2 [(0, .ref q), (1, .ref x)] := hl
  refine lv_aload_n hx hb dJ2_add_0 rfl (lv_at hl 0 rfl) ?_
  refine lv_dup hx hb dJ2_add_1 rfl ?_
  refine va_get (ci := 15) (v := .int mc) (C := RJ2) (T := TJ2) (N := 3) hx hb hts in_J2 hown hK hP 0 rfl rfl 0 (by decide) (hts _ q347) (u_same (hts _ q348)) rfl dJ2_add_2 ?_
  refine lv_iconst (v := nI 1) hx hb dJ2_add_5 (by decide) ?_
  refine lv_iadd hx hb dJ2_add_6 ?_
  refine va_put (ci := 15) (v := .int (mc + nI 1)) (ty := tyJ2 0) (C := RJ2) (T := TJ2) (N := 3) hx hb hts in_J2 tyJ2 tyJ2_ok nmJ2 hown hK hP hD hS 0 rfl rfl 0 (by decide) (hts _ q347) (u_same (hts _ q348)) rfl (tyJ2_ok 0 (by decide)) rfl rfl (Nat.le_of_ble_eq_true rfl) dJ2_add_7 (fun H locs hP hD hS => ?_)
  have hP : va_P D zCl (lsO q e (mc + nI 1) n :: lsA k e n els :: xs) H := hP
  have hD : va_D A (lsO q e (mc + nI 1) n :: lsA k e n els :: xs) := hD
  refine lv_aload_n hx hb dJ2_add_10 rfl (lv_at hl 0 rfl) ?_
  refine lv_aload_n hx hb dJ2_add_11 rfl (lv_at hl 1 rfl) ?_
  refine lv_aload_n hx hb dJ2_add_12 rfl (lv_at hl 0 rfl) ?_
  refine va_get (ci := 15) (v := .ref e) (C := RJ2) (T := TJ2) (N := 3) hx hb hts in_J2 hown hK hP 0 rfl rfl 1 (by decide) (hts _ q344) (fun _ h9 => h9) rfl dJ2_add_13 ?_
  refine lv_aload_n hx hb dJ2_add_16 rfl (lv_at hl 0 rfl) ?_
  refine va_get (ci := 15) (v := .int (nI n)) (C := RJ2) (T := TJ2) (N := 3) hx hb hts in_J2 hown hK hP 0 rfl rfl 2 (by decide) (hts _ q345) (fun _ h9 => h9) rfl dJ2_add_17 ?_
  refine cWV0 (As := [.ref x, .ref e, .int (nI n)]) (ci := 15) ⟨hx, hb, hml, hown, hts⟩ hOK hz hS hA hP hD (mtJ2_add_2g l D k Z hOK hLs q e x (mc + nI 1) n els xs hlen h1 hn hel hx9) (kJ2_add_2 hts q1443 rfl rfl ⟨Nat.le_of_ble_eq_true rfl, Nat.le_of_ble_eq_true rfl⟩) 0 rfl rfl rfl hl.1 rfl (lv_room (Nat.le_of_ble_eq_true rfl)) ⟨by show 0 + 1 ≤ 1; omega, by show 0 + lsCap n ≤ lsCap n; omega⟩ dJ2_add_20 (fun r_ w_ H locs hq hP hD hS => ?_)
  obtain ⟨e', rfl, rfl⟩ := hq
  refine lv_iconst (v := nI 1) hx hb dJ2_add_23 (by decide) ?_
  refine W.widen (k := 1) (n := (lsCap n)) (by omega) (by omega) ?_
  exact retW_z (v := true) hx hb hr hlocks hP hD hS ⟨e', rfl, rfl⟩ dJ2_add_24
theorem ls_rm (els : List Nat) (i n : Nat) (hlen : els.length = n + 1) (hi : i ≤ n) : va_up (if i < n then va_cpy (fun j => els[j]?) (fun j => els[j]?) (i + 1) i (n - i) else fun j => els[j]?) n none = fun j => (els.eraseIdx i)[j]? := by
  funext j
  unfold va_up
  rw [List.getElem?_eraseIdx]
  by_cases h : j = n
  · rw [if_pos h]
    subst h
    by_cases q : j < i
    · omega
    · rw [if_neg q, List.getElem?_eq_none (by omega)]
  · rw [if_neg h]
    by_cases q : i < n
    · rw [if_pos q]
      unfold va_cpy
      by_cases q2 : j < i
      · rw [if_pos q2, if_neg (by omega)]
      · rw [if_neg q2]
        by_cases q3 : i ≤ j ∧ j < i + (n - i)
        · rw [if_pos q3, show i + 1 + (j - i) = j + 1 by omega]
        · rw [if_neg q3]
          show els[j]? = _
          rw [List.getElem?_eq_none (by omega), List.getElem?_eq_none (by omega)]
    · rw [if_neg q]
      by_cases q2 : j < i
      · rw [if_pos q2]
      · rw [if_neg q2, List.getElem?_eq_none (by omega), List.getElem?_eq_none (by omega)]
set_option maxRecDepth 100000 in
theorem mtJ2_fastRemove (l : Launch) (D : va_G) (k : Nat → ClassId) (Z : zZ) (hOK : zOK D zCl (zTys k) Z) (q e : Nat) (mc : Int32) (n cap i : Nat) (els : List Nat) (xs : va_W) (hlen : els.length = n + 1) (hc : n + 1 ≤ cap) (hc31 : cap < 2 ^ 26) (hi : i ≤ n) (hel : ∀ y ∈ els, elIn xs y) : CtW l yJ2_fastRemove cJ2_fastRemove 4 none (rLs 1 0 0 60) Z D zCl (lsO q e mc (n + 1) :: lsA k e cap els :: xs) [.ref q, .ref e, .int (nI i)] (fun r' w' => r' = none ∧ w' = (lsO q e (mc + nI 1) n :: lsA k e cap (els.eraseIdx i) :: xs)) 0 0 := by
  refine CtW.of (by decide) (Nat.le_of_ble_eq_true rfl) ?_
  intro p e9 s m args below meth c A hE hA hP hD hS hz ls hl
  obtain ⟨hx, hb, hr, hml, hown, hts, hlocks, hname⟩ := hE
  have hown : s.vm.findClass RJ2 = some m.cls := hown
  have hK := hOK.1 _ _ _ hz
  have hN := hOK.2.1 _ _ _ hz
  have hl : lv_has ls 4 [(0, .ref q), (1, .ref e), (2, .int (nI i))] := hl
  refine lv_aload_n hx hb dJ2_fastRemove_0 rfl (lv_at hl 0 rfl) ?_
  refine lv_dup hx hb dJ2_fastRemove_1 rfl ?_
  refine va_get (ci := 15) (v := .int mc) (C := RJ2) (T := TJ2) (N := 3) hx hb hts in_J2 hown hK hP 0 rfl rfl 0 (by decide) (hts _ q347) (u_same (hts _ q348)) rfl dJ2_fastRemove_2 ?_
  refine lv_iconst (v := nI 1) hx hb dJ2_fastRemove_5 (by decide) ?_
  refine lv_iadd hx hb dJ2_fastRemove_6 ?_
  refine va_put (ci := 15) (v := .int (mc + nI 1)) (ty := tyJ2 0) (C := RJ2) (T := TJ2) (N := 3) hx hb hts in_J2 tyJ2 tyJ2_ok nmJ2 hown hK hP hD hS 0 rfl rfl 0 (by decide) (hts _ q347) (u_same (hts _ q348)) rfl (tyJ2_ok 0 (by decide)) rfl rfl (Nat.le_of_ble_eq_true rfl) dJ2_fastRemove_7 (fun H locs hP hD hS => ?_)
  have hP : va_P D zCl (lsO q e (mc + nI 1) (n + 1) :: lsA k e cap els :: xs) H := hP
  have hD : va_D A (lsO q e (mc + nI 1) (n + 1) :: lsA k e cap els :: xs) := hD
  refine lv_aload_n hx hb dJ2_fastRemove_10 rfl (lv_at hl 0 rfl) ?_
  refine va_get (ci := 15) (v := .int (nI (n + 1))) (C := RJ2) (T := TJ2) (N := 3) hx hb hts in_J2 hown hK hP 0 rfl rfl 2 (by decide) (hts _ q345) (fun _ h9 => h9) rfl dJ2_fastRemove_11 ?_
  refine lv_iconst (v := nI 1) hx hb dJ2_fastRemove_14 (by decide) ?_
  refine lv_isub hx hb dJ2_fastRemove_15 ?_
  refine W.eq (g2 := F0 m 16 ls [.int (nI n)]) (by rw [← nI_pred n]; rfl) ?_
  refine lv_dup hx hb dJ2_fastRemove_16 rfl ?_
  refine lv_istore_n (lv' := [(3, .int (nI n)), (0, .ref q), (1, .ref e), (2, .int (nI i))]) hx hb dJ2_fastRemove_17 rfl hl (by decide) rfl (fun ls hl => ?_)
  refine lv_iload_n hx hb dJ2_fastRemove_18 rfl (lv_at hl 3 rfl) ?_
  have tail : ∀ (H : Heap) (locs : List Loc), va_P D zCl (lsO q e (mc + nI 1) (n + 1) :: lsF k e cap (if i < n then va_cpy (fun j => els[j]?) (fun j => els[j]?) (i + 1) i (n - i) else fun j => els[j]?) :: xs) H → va_D A (lsO q e (mc + nI 1) (n + 1) :: lsF k e cap (if i < n then va_cpy (fun j => els[j]?) (fun j => els[j]?) (i + 1) i (n - i) else fun j => els[j]?) :: xs) → va_S A s.heap H locs → W p l e9 (rLs 1 0 0 60) s m args below meth c H locs 0 0 (MQ below (QWr (fun r' w' => r' = none ∧ w' = (lsO q e (mc + nI 1) n :: lsA k e cap (els.eraseIdx i) :: xs)) D zCl A) args s 0 0 A) (F0 m 34 ls []) := by
    intro H locs hP hD hS
    refine lv_aload_n hx hb dJ2_fastRemove_34 rfl (lv_at hl 2 rfl) ?_
    refine lv_aload_n hx hb dJ2_fastRemove_35 rfl (lv_at hl 1 rfl) ?_
    refine lv_iload_n hx hb dJ2_fastRemove_36 rfl (lv_at hl 0 rfl) ?_
    refine lv_dup_x1 hx hb dJ2_fastRemove_37 rfl rfl ?_
    refine va_put (ci := 15) (v := .int (nI n)) (ty := tyJ2 2) (C := RJ2) (T := TJ2) (N := 3) hx hb hts in_J2 tyJ2 tyJ2_ok nmJ2 hown hK hP hD hS 0 rfl rfl 2 (by decide) (hts _ q345) (fun _ h9 => h9) rfl (tyJ2_ok 2 (by decide)) rfl rfl (Nat.le_of_ble_eq_true rfl) dJ2_fastRemove_38 (fun H locs hP hD hS => ?_)
    have hP : va_P D zCl (lsO q e (mc + nI 1) n :: lsF k e cap (if i < n then va_cpy (fun j => els[j]?) (fun j => els[j]?) (i + 1) i (n - i) else fun j => els[j]?) :: xs) H := hP
    have hD : va_D A (lsO q e (mc + nI 1) n :: lsF k e cap (if i < n then va_cpy (fun j => els[j]?) (fun j => els[j]?) (i + 1) i (n - i) else fun j => els[j]?) :: xs) := hD
    refine lv_null hx hb dJ2_fastRemove_41 ?_
    refine va_astqN hx hb hK hP hD hS 1 4 rfl rfl (vp_in_nI (show n < cap by omega) (by omega)) dJ2_fastRemove_42 (fun H locs hP hD hS => ?_)
    have hP : va_P D zCl (lsO q e (mc + nI 1) n :: lsF k e cap (va_up (if i < n then va_cpy (fun j => els[j]?) (fun j => els[j]?) (i + 1) i (n - i) else fun j => els[j]?) (nI n).toNatClampNeg none) :: xs) H := hP
    have hD : va_D A (lsO q e (mc + nI 1) n :: lsF k e cap (va_up (if i < n then va_cpy (fun j => els[j]?) (fun j => els[j]?) (i + 1) i (n - i) else fun j => els[j]?) (nI n).toNatClampNeg none) :: xs) := hD
    rw [nI_clamp (show n < 2 ^ 31 by omega), ls_rm els i n hlen hi] at hP hD
    exact retW_v hx hb hr hlocks hP hD hS ⟨rfl, rfl⟩ dJ2_fastRemove_43
  refine lv_icmp_le (tgt := 34) hx hb dJ2_fastRemove_19 (by decide) (fun c1 => ?_) (fun c1 => ?_)
  · have q9 : ¬ i < n := fun h => absurd c1 (nI_ge h (by omega))
    rw [if_neg q9] at tail
    exact tail _ _ hP hD hS
  have q9 : i < n := Nat.lt_of_not_le fun h => c1 (nI_le h (by omega))
  rw [if_pos q9] at tail
  refine lv_aload_n hx hb dJ2_fastRemove_22 rfl (lv_at hl 2 rfl) ?_
  refine lv_iload_n hx hb dJ2_fastRemove_23 rfl (lv_at hl 3 rfl) ?_
  refine lv_iconst (v := nI 1) hx hb dJ2_fastRemove_24 (by decide) ?_
  refine lv_iadd hx hb dJ2_fastRemove_25 ?_
  refine lv_aload_n hx hb dJ2_fastRemove_26 rfl (lv_at hl 2 rfl) ?_
  refine lv_iload_n hx hb dJ2_fastRemove_27 rfl (lv_at hl 3 rfl) ?_
  refine lv_iload_n hx hb dJ2_fastRemove_28 rfl (lv_at hl 0 rfl) ?_
  refine lv_iload_n hx hb dJ2_fastRemove_29 rfl (lv_at hl 3 rfl) ?_
  refine lv_isub hx hb dJ2_fastRemove_30 ?_
  refine W.eq (g2 := F0 m 31 ls [.int (nI (n - i)), .int (nI i), .ref e, .int (nI (i + 1)), .ref e]) (by rw [← nI_add, ← pk_sub (show i ≤ n by omega)]) ?_
  have q0 : (nI (i + 1)).toNatClampNeg = i + 1 := nI_clamp (by omega)
  have q1 : (nI i).toNatClampNeg = i := nI_clamp (by omega)
  have q2 : (nI (n - i)).toNatClampNeg = n - i := nI_clamp (by omega)
  refine va_copyM hx hb (hml.trans hl.1.symm) hown (hts _ q723) (hts _ q443) (hts _ q442) (hts _ q116) hK hP hD hS 1 1 4 4 rfl rfl rfl rfl (nI_pos (by omega)) (nI_pos (by omega)) (nI_pos (by omega)) (by rw [q0, q2]; omega) (by rw [q1, q2]; omega) (fun i9 _ y hy => ?_) (Nat.le_of_ble_eq_true rfl) (Nat.le_of_ble_eq_true rfl) dJ2_fastRemove_31 (fun H locs hP hD hS => ?_)
  · exact (hel y (List.mem_of_getElem? hy)).any hK hN hP (fun q hq => List.mem_cons_of_mem _ (List.mem_cons_of_mem _ hq))
  rw [q0, q1, q2] at hP hD
  exact tail _ _ hP hD hS
set_option maxRecDepth 100000 in
theorem mtJ2_remove (l : Launch) (D : va_G) (k : Nat → ClassId) (Z : zZ) (hOK : zOK D zCl (zTys k) Z) (q e : Nat) (mc : Int32) (n cap i : Nat) (els : List Nat) (xs : va_W) (hlen : els.length = n + 1) (hc : n + 1 ≤ cap) (hc31 : cap < 2 ^ 26) (hi : i ≤ n) (hel : ∀ y ∈ els, elIn xs y) (x : Nat) (hx9 : els[i]? = some x) : CtW l yJ2_remove cJ2_remove 4 (some (.object "java/lang/Object")) (rLs 2 0 0 90) Z D zCl (lsO q e mc (n + 1) :: lsA k e cap els :: xs) [.ref q, .int (nI i)] (fun r' w' => r' = some (.ref x) ∧ w' = (lsO q e (mc + nI 1) n :: lsA k e cap (els.eraseIdx i) :: xs)) 0 0 := by
  refine CtW.of (by decide) (Nat.le_of_ble_eq_true rfl) ?_
  intro p e9 s m args below meth c A hE hA hP hD hS hz ls hl
  obtain ⟨hx, hb, hr, hml, hown, hts, hlocks, hname⟩ := hE
  have hown : s.vm.findClass RJ2 = some m.cls := hown
  have hK := hOK.1 _ _ _ hz
  have hN := hOK.2.1 _ _ _ hz
  have hl : lv_has ls 4 [(0, .ref q), (1, .int (nI i))] := hl
  refine lv_iload_n hx hb dJ2_remove_0 rfl (lv_at hl 1 rfl) ?_
  refine lv_aload_n hx hb dJ2_remove_1 rfl (lv_at hl 0 rfl) ?_
  refine va_get (ci := 15) (v := .int (nI (n + 1))) (C := RJ2) (T := TJ2) (N := 3) hx hb hts in_J2 hown hK hP 0 rfl rfl 2 (by decide) (hts _ q345) (fun _ h9 => h9) rfl dJ2_remove_2 ?_
  refine cRS (ws := []) (As := [.int (nI i), .int (nI (n + 1))]) ⟨hx, hb, hml, hown, hts⟩ hOK hz hS zP0 (mtJ22_checkIndex l D k Z hOK (nI i) (nI (n + 1)) (nI_pos (show i < 2 ^ 31 by omega)) (nI_lt (by omega) (by omega))) (kJ22_checkIndex hts q474 rfl rfl ⟨Nat.le_of_ble_eq_true rfl, Nat.le_of_ble_eq_true rfl⟩) rfl hl.1 rfl (lv_room (Nat.le_of_ble_eq_true rfl)) ⟨Nat.le_of_ble_eq_true rfl, Nat.le_of_ble_eq_true rfl⟩ dJ2_remove_5 ?_
  refine lv_pop hx hb dJ2_remove_8 rfl ?_
  refine lv_aload_n hx hb dJ2_remove_9 rfl (lv_at hl 0 rfl) ?_
  refine va_get (ci := 15) (v := .ref e) (C := RJ2) (T := TJ2) (N := 3) hx hb hts in_J2 hown hK hP 0 rfl rfl 1 (by decide) (hts _ q344) (fun _ h9 => h9) rfl dJ2_remove_10 ?_
  refine lv_astore_n (lv' := [(2, .ref e), (0, .ref q), (1, .int (nI i))]) hx hb dJ2_remove_13 rfl hl (by decide) rfl (fun ls hl => ?_)
  refine lv_aload_n hx hb dJ2_remove_14 rfl (lv_at hl 0 rfl) ?_
  refine lv_iload_n hx hb dJ2_remove_15 rfl (lv_at hl 2 rfl) ?_
  refine va_aldq hx hb hK hP 1 4 rfl rfl (vp_in_nI (show i < cap by omega) (by omega)) dJ2_remove_16 ?_
  refine W.eq (g2 := F0 m 17 ls [.ref x]) (by show F0 m 17 ls [va_rf els[(nI i).toNatClampNeg]?] = _; rw [nI_clamp (show i < 2 ^ 31 by omega), hx9]; rfl) ?_
  refine lv_astore_n (lv' := [(3, .ref x), (2, .ref e), (0, .ref q), (1, .int (nI i))]) hx hb dJ2_remove_17 rfl hl (by decide) rfl (fun ls hl => ?_)
  refine lv_aload_n hx hb dJ2_remove_18 rfl (lv_at hl 2 rfl) ?_
  refine lv_aload_n hx hb dJ2_remove_19 rfl (lv_at hl 1 rfl) ?_
  refine lv_iload_n hx hb dJ2_remove_20 rfl (lv_at hl 3 rfl) ?_
  refine cWV0 (As := [.ref e, .int (nI i)]) (ci := 15) ⟨hx, hb, hml, hown, hts⟩ hOK hz hS hA hP hD (mtJ2_fastRemove l D k Z hOK q e mc n cap i els xs hlen hc hc31 hi hel) (kJ2_fastRemove hts q719 rfl rfl ⟨Nat.le_of_ble_eq_true rfl, Nat.le_of_ble_eq_true rfl⟩) 0 rfl rfl rfl hl.1 rfl (lv_room (Nat.le_of_ble_eq_true rfl)) ⟨Nat.le_of_ble_eq_true rfl, Nat.le_of_ble_eq_true rfl⟩ dJ2_remove_21 (fun r_ w_ H locs hq hP hD hS => ?_)
  obtain ⟨rfl, rfl⟩ := hq
  refine lv_aload_n hx hb dJ2_remove_24 rfl (lv_at hl 0 rfl) ?_
  exact retW_a hx hb hr (Or.inl ⟨_, rfl⟩) hlocks hP hD hS ⟨rfl, rfl⟩ dJ2_remove_25
