/-! THE FACTS: the enum's array, its words -/
def fcS (i : Nat) : Nat := [0, 19, 9, 20, 21, 22, 23].getD i 0
abbrev zTy6 (k : Nat → ClassId) : List (ClassId × FieldType) := zTys k ++ [(k 5, .object "SaturdayKeep$Fact")]
theorem zOK6 {D : va_G} {k : Nat → ClassId} {Z : zZ} (h : zOK D zCl (zTy6 k) Z) : zOK D zCl (zTys k) Z := ⟨fun A U H hz => (h.1 A U H hz).sub [0, 1, 2, 3, 4] rfl, h.2⟩
def fcA (aF : Nat → Nat) : Nat → Option Nat := fun j => some (aF j)
def zVl (k : Nat → ClassId) (Z : zZ) (aF adK : Nat → Nat) (vq : Nat) : Prop := ∀ A U H, Z A U H → va_Z "SaturdayKeep$Fact" "$VALUES" "[LSaturdayKeep$Fact;" (.ref vq) A U H ∧
  (∃ cell : Cell, H[vq]? = some cell ∧ cell.vm.isStatics = false ∧ cell.vm ≠ .unknown ∧ cell.cls = k 5 ∧ cell.slots = (arrV (k 5) 7 (fun j => va_rf (fcA aF j))).slots ∧ ¬ A vq) ∧ ∀ i, i < 7 → va_OF "SaturdayKeep$Fact" "told" "Ljava/lang/String;" (.ref (adK (fcS i))) (aF i) A U H
section ZCL
variable {p : Program} {l : Launch} {e : Env} {R : Room} {s : State} {m : MethodId} {args : Array Value} {below : List Frame} {meth : Method} {c : Code} {H : Heap} {locs : List Loc} {cells slots : Nat} {Q : State → Prop}
variable {cc : ByteArray} {pc : Nat} {ls : Array Slot} {rest : List Value} {D : va_G} {cl : List vw_C} {A : Nat → Prop} {a : Nat} {tys : List (ClassId × FieldType)} {ws : va_W} {H0 : Heap}
/-- clone of an array of references that nobody changes -/
theorem va_cloneC (hexec : p.tables.exec = Jvm.exec) (hb : c.code = cc) (hml : c.maxLocals = ls.size) {own ad : String} {index : Nat} (hown : s.vm.findClass own = some m.cls)
    (hlink : (Cond.methodLink own index ⟨ad, "clone", "()Ljava/lang/Object;"⟩).before args s = true) (hsame : (Cond.sameMethod ad "java/lang/Object" "clone" "()Ljava/lang/Object;").before args s = true)
    (hnat : (Cond.native ⟨"java/lang/Object", "clone", "()Ljava/lang/Object;"⟩).before args s = true) (hinst : (Cond.instanceMethod ⟨"java/lang/Object", "clone", "()Ljava/lang/Object;"⟩).before args s = true)
    (hsel : (Cond.selects ad ⟨ad, "clone", "()Ljava/lang/Object;"⟩ ⟨"java/lang/Object", "clone", "()Ljava/lang/Object;"⟩).before args s = true) (hcl : va_Nw (.castable ad "java/lang/Cloneable") s)
    (hK : va_K D cl tys s) (hP : va_P D cl ws H) (hD : va_D A ws) (hS : va_S A H0 H locs) (hA : ∀ q : Nat, H0.size ≤ q → A q) (t0 : Nat) {cA : ClassId} {n : Nat} {f : Nat → Option Nat} {ty : FieldType} {C : String} {arr : Cell} (hcell : H[a]? = some arr) (hst : arr.vm.isStatics = false) (hkn : arr.vm ≠ .unknown) (hcls : arr.cls = cA) (hsl : arr.slots = (arrV cA n (fun j => va_rf (f j))).slots) (ht : tys[t0]? = some (cA, ty)) (hty : ty = .object C)
    (hnm : s.vm.findClass ad = some cA) (hframes : 1 ≤ R.frames) (hlocals : (rest.map fun v => v.category).sum + 14 ≤ R.locals) (hcells : cells + 1 ≤ R.cells) (hslots : slots + n ≤ R.slots) (hdg : decode cc pc = .ok (.invokevirtual index, 3))
    (kk : ∀ (q : Nat) (H1 : Heap), va_P D cl (ws ++ [(q, .inl (cA, n, .inr (.inr (.inr (.inr f)))))]) H1 → va_D A (ws ++ [(q, .inl (cA, n, .inr (.inr (.inr (.inr f)))))]) → va_S A H0 H1 locs →
      W p l e R s m args below meth c H1 locs (cells + 1) (slots + n) Q (F0 m (pc + 3) ls (.ref q :: rest))) : W p l e R s m args below meth c H locs cells slots Q (F0 m pc ls (.ref a :: rest)) := by
  subst hty
  have hsz : arr.slots.size = n := by rw [hsl, arrV_size]
  have hcellE : ({ cls := arr.cls, slots := arr.slots } : Cell) = arrV cA n (fun j => va_rf (f j)) := by
    rw [hsl, hcls]
    rfl
  have hfit : ∀ (i : Nat) (v : Value), arr.slots[i]? = some v → fits (.object C) v = true := by
    intro i v hv
    rw [hsl] at hv
    refine va_fit (cA := cA) (n := n) (F := fun j => va_rf (f j)) (fun i _ => ?_) i v hv
    show fits (.object C) (va_rf (f i)) = true
    cases f i <;> rfl
  obtain ⟨c0, t0', f1, f2, f3⟩ := Cond.castable_spec (va_Nw.use (A := args) rfl hcl)
  cases hnm.symm.trans f1
  intro T hT X
  have hcellT : T.heap[a]? = some arr := by rw [hT]; exact hcell
  obtain ⟨-, kA, hkA, comp, hkind⟩ := State.isArrayOf_alike X.warmed.alike ((hK.2 t0 _ ht).1 0 (fun _ => .null))
  obtain ⟨-, kS, hkS, compS, hkindS⟩ := (hK.2 t0 _ ht).1 0 (fun _ => .null)
  obtain ⟨vm', X', st⟩ := X.cloneArray hexec hown hlink hsame hnat hinst hsel (a := a) (cell := arr) hcellT (fun k h => by rw [h] at hst; cases hst) hkn (by rw [hcls]; exact hnm) f2 (by rw [hcls]; exact f3)
    (fun i v hv => by
      rw [hcls]
      have hk' : T.vm.classes[cA]? = some kA := hkA
      simpa [State.fitsSlot, State.slotType?, hk', hkind] using hfit i v hv)
    (g := F0 m pc ls (.ref a :: rest)) rfl (by rw [hml]) rfl (by rw [hb]; exact hdg) hframes (by show 2 * 0 + _ + 14 ≤ _; omega) hcells (by rw [hsz]; exact hslots) (hloader := by rw [hcls]; exact Vm.clonesLoader_of_array hkS hkindS)
  rw [hcellE, hsz] at X'
  rw [hcellE] at st
  generalize hH1 : H.push (arrV cA n (fun j => va_rf (f j))) = H1
  have z1 : H1.size = H.size + 1 := by rw [← hH1, Array.size_push]
  have e1 : H1[H.size]? = some (arrV cA n (fun j => va_rf (f j))) := by rw [← hH1, Array.getElem?_push_size]
  have o1 : ∀ q : Nat, q < H.size → H1[q]? = H[q]? := fun q hq => by rw [← hH1, Array.getElem?_push, if_neg (Nat.ne_of_lt hq)]
  have hk : ∀ (k : Nat) (y : Nat × va_E), ws[k]? = some y → H1[y.1]? = H[y.1]? := fun k y hy => o1 y.1 ((hP k y hy).lt)
  obtain ⟨t, b1, b2⟩ := kk H.size H1 ((hP.kept hk).app (fun k y hy => by
      have hz : k < 1 := (List.getElem?_eq_some_iff.mp hy).1
      rw [show k = 0 by omega] at hy
      cases hy
      exact e1)) (hD.push hP rfl (hA _ hS.1)) ⟨Nat.le_trans hS.1 (by omega), fun y h1 h2 => (o1 y (Nat.lt_of_lt_of_le h1 hS.1)).trans (hS.2.1 y h1 h2), hS.2.2⟩
    ((T.setVm vm').pushCell (arrV cA n (fun j => va_rf (f j)))) (by rw [← hH1, ← hT]; rfl) X'
  refine ⟨t, st t ?_, b2⟩
  rw [hT]
  exact b1
theorem retW_n {Z : zZ} {P : Option Value → va_W → Prop} {rt : FieldType} (hx : p.tables.exec = Jvm.exec) (hb : c.code = cc) (hr : meth.sig.returnType = some rt) (hrt : (∃ n, rt = .object n) ∨ ∃ t, rt = .array t) (hlocks : meth.locks = false) (hP : va_P D cl ws H) (hD : va_D A ws) (hS : va_S A s.heap H locs) (hp : P (some .null) ws) (hdg : decode cc pc = .ok (.areturn, 1)) : W p l e R s m args below meth c H locs cells slots (MQ below (QWr P D cl A) args s cells slots A) (F0 m pc ls [.null]) :=
  W.aret hx hb hr hrt (Or.inl rfl) (fun t ht _ => ⟨⟨_, ws, rfl, hp, by rw [ht]; exact hP, hD⟩, hS.F ht⟩) hS.2.2 hdg hlocks
end ZCL
theorem kX15_values {R : Room} {s : State} {args : Array Value} {own : String} {idx mc ms : Nat} {rm : Room} (hts : ∀ w ∈ lw_all, w.before args s = true) (hl : Cond.methodLink own idx yX15_values ∈ lw_all) (hrc : rm.cells = mc) (hrs : rm.slots = ms) (hR : rm.frames + 1 ≤ R.frames ∧ 8 + (0 + 11) + rm.locals ≤ R.locals) : CallB R s args own idx yX15_values cX15_values 0 (some (.array (.object "SaturdayKeep$Fact"))) (ws_ yX15_values cX15_values 0 (some (.array (.object "SaturdayKeep$Fact")))) rm mc ms 0 ∧ (Cond.static yX15_values).before args s = true :=
  va_cwS 0 hts (lw_S hl q1428 q142 q1429) rfl hrc hrs (by decide +kernel) hR
set_option maxRecDepth 100000 in
theorem mtX15_values (l : Launch) (D : va_G) (k : Nat → ClassId) (Z : zZ) (hOK : zOK D zCl (zTy6 k) Z) {aF adK : Nat → Nat} {vq : Nat} (hVl : zVl k Z aF adK vq) : CtW l yX15_values cX15_values 0 (some (.array (.object "SaturdayKeep$Fact"))) (rLs 1 1 7 14) Z D zCl [] [] (fun r' w' => ∃ q, r' = some (.ref q) ∧ w' = [(q, .inl (k 5, 7, .inr (.inr (.inr (.inr (fcA aF))))))]) 1 7 := by
  refine CtW.of (by decide) (Nat.le_of_ble_eq_true rfl) ?_
  intro p e9 s m args below meth c A hE hA hP hD hS hz ls hl
  obtain ⟨hx, hb, hr, hml, hown, hts, hlocks, hname⟩ := hE
  have hown : s.vm.findClass RX15 = some m.cls := hown
  have hK := hOK.1 _ _ _ hz
  have hN := hOK.2.1 _ _ _ hz
  have hl : lv_has ls 0 [] := hl
  obtain ⟨arr, v1, v2, v3, v4, v5, v6⟩ := (hVl _ _ _ hz).2.1
  have hnm : s.vm.findClass "[LSaturdayKeep$Fact;" = some (k 5) := by
    obtain ⟨kA, comp, g1, g2, g3, g4⟩ := (hK.2 5 _ rfl).2
    have e : "[" ++ (FieldType.object "SaturdayKeep$Fact").toString = "[LSaturdayKeep$Fact;" := by decide +kernel
    rw [e] at g4
    exact g4
  refine va_gets hx hb (hVl _ _ _ hz).1 hS hown (hts _ q1430) (fun _ h9 => h9) dX15_values_0 ?_
  refine va_cloneC (n := 7) (f := fcA aF) (C := "SaturdayKeep$Fact") hx hb (hml.trans hl.1.symm) hown (hts _ q1432) (hts _ q1433) (hts _ q848) (hts _ q849) (hts _ q1434) (hN _ (zN_of q1435 rfl)) hK hP hD hS hA 5 v1 v2 v3 v4 v5 rfl rfl hnm (Nat.le_of_ble_eq_true rfl) (Nat.le_of_ble_eq_true rfl) (Nat.le_of_ble_eq_true rfl) (Nat.le_of_ble_eq_true rfl) dX15_values_3 (fun q H hP hD hS => ?_)
  have hP : va_P D zCl [(q, .inl (k 5, 7, .inr (.inr (.inr (.inr (fcA aF))))))] _ := hP
  have hD : va_D A [(q, .inl (k 5, 7, .inr (.inr (.inr (.inr (fcA aF))))))] := hD
  refine va_castA hx hb hown (hts _ q1437) hP 0 rfl hnm dX15_values_6 ?_
  exact retW_a hx hb hr (Or.inr ⟨_, rfl⟩) hlocks hP hD hS ⟨q, rfl, rfl⟩ dX15_values_9
/-- the first place that holds, of j from i on -/
def facL (p : Nat → Bool) : Nat → Nat → Option Nat
  | 0, _ => none
  | j + 1, i => if p i = true then some i else facL p j (i + 1)
theorem facL_lt (p : Nat → Bool) : ∀ (j i x : Nat), facL p j i = some x → i ≤ x ∧ x < i + j ∧ p x = true
  | 0, _, _, h => nomatch h
  | j + 1, i, x, h => by
    unfold facL at h
    by_cases q : p i = true
    · rw [if_pos q] at h
      cases h
      exact ⟨Nat.le_refl _, by omega, q⟩
    · rw [if_neg q] at h
      obtain ⟨h1, h2, h3⟩ := facL_lt p j (i + 1) x h
      exact ⟨by omega, by omega, h3⟩
def facP (n : Nat) (f : Nat → Int32) (i : Nat) : Bool := eqS n f (stL (fcS i)) (stC (fcS i))
theorem fcS_lt : ∀ i, i < 7 → fcS i < stN := by decide
theorem kX15_of {R : Room} {s : State} {args : Array Value} {own : String} {idx mc ms : Nat} {rm : Room} (hts : ∀ w ∈ lw_all, w.before args s = true) (hl : Cond.methodLink own idx yX15_of ∈ lw_all) (hrc : rm.cells = mc) (hrs : rm.slots = ms) (hR : rm.frames + 1 ≤ R.frames ∧ 8 + (5 + 11) + rm.locals ≤ R.locals) : CallB R s args own idx yX15_of cX15_of 5 (some (.object "SaturdayKeep$Fact")) (ws_ yX15_of cX15_of 5 (some (.object "SaturdayKeep$Fact"))) rm mc ms 1 ∧ (Cond.static yX15_of).before args s = true :=
  va_cwS 1 hts (lw_S hl q1425 q142 q1426) rfl hrc hrs (by decide +kernel) hR
set_option maxRecDepth 100000 in
theorem mtX15_of (l : Launch) (D : va_G) (k : Nat → ClassId) (Z : zZ) (hOK : zOK D zCl (zTy6 k) Z) {aF adK adV : Nat → Nat} {vq : Nat} (hVl : zVl k Z aF adK vq) (hStr : zStr Z adK adV) (q v1 n : Nat) (f1 : Nat → Int32) (hn : n < 2 ^ 31) : CtW l yX15_of cX15_of 5 (some (.object "SaturdayKeep$Fact")) (rLs 3 1 7 90) Z D zCl (strC k q v1 n 0 false f1) [.ref q] (fun r' w' => r' = some (va_rf ((facL (facP n f1) 7 0).map aF)) ∧ w' = (strC k q v1 n 0 false f1)) 1 7 := by
  refine CtW.of (by decide) (Nat.le_of_ble_eq_true rfl) ?_
  intro p e9 s m args below meth c A hE hA hP hD hS hz ls hl
  have hOK5 := zOK6 hOK
  obtain ⟨hx, hb, hr, hml, hown, hts, hlocks, hname⟩ := hE
  have hown : s.vm.findClass RX15 = some m.cls := hown
  have hK := hOK.1 _ _ _ hz
  have hN := hOK.2.1 _ _ _ hz
  have hl : lv_has ls 5 [(0, .ref q)] := hl
  have hP : va_P D zCl ((strC k q v1 n 0 false f1) ++ ([] ++ [])) _ := hP
  have hD : va_D A ((strC k q v1 n 0 false f1) ++ ([] ++ [])) := hD
  refine cWS (strC k q v1 n 0 false f1) [] [] (As := []) ⟨hx, hb, hml, hown, hts⟩ hOK hz hS hA hP hD (mtX15_values l D k Z hOK hVl) (kX15_values hts q1427 rfl rfl ⟨Nat.le_of_ble_eq_true rfl, Nat.le_of_ble_eq_true rfl⟩) rfl hl.1 rfl (lv_room (Nat.le_of_ble_eq_true rfl)) ⟨Nat.le_of_ble_eq_true rfl, Nat.le_of_ble_eq_true rfl⟩ dX15_of_0 (fun r_ w_ H locs hq hP hD hS => ?_)
  obtain ⟨q2, rfl, rfl⟩ := hq
  have hP : va_P D zCl ((strC k q v1 n 0 false f1) ++ [(q2, .inl (k 5, 7, .inr (.inr (.inr (.inr (fcA aF))))))]) _ := hP
  have hD : va_D A ((strC k q v1 n 0 false f1) ++ [(q2, .inl (k 5, 7, .inr (.inr (.inr (.inr (fcA aF))))))]) := hD
  refine lv_astore_n (lv' := [(1, .ref q2), (0, .ref q)]) hx hb dX15_of_3 rfl hl (by decide) rfl (fun ls hl => ?_)
  refine lv_aload_n hx hb dX15_of_4 rfl (lv_at hl 0 rfl) ?_
  refine va_alen (v := nI 7) hx hb hK hP 2 5 rfl rfl rfl dX15_of_5 ?_
  refine lv_istore_n (lv' := [(2, .int (nI 7)), (1, .ref q2), (0, .ref q)]) hx hb dX15_of_6 rfl hl (by decide) rfl (fun ls hl => ?_)
  refine lv_iconst (v := (0 : Int32)) hx hb dX15_of_7 (by decide) ?_
  refine lv_istore_n (lv' := [(3, .int (0 : Int32)), (2, .int (nI 7)), (1, .ref q2), (0, .ref q)]) hx hb dX15_of_8 rfl hl (by decide) rfl (fun ls hl => ?_)
  have hA0 : A q := hD.2 0 _ rfl
  have key : ∀ (j i : Nat), i + j = 7 → facL (facP n f1) j i = facL (facP n f1) 7 0 → ∀ ls : Array Slot, lv_has ls 5 [(3, .int (nI i)), (2, .int (nI 7)), (1, .ref q2), (0, .ref q)] → W p l e9 (rLs 3 1 7 90) s m args below meth c H locs (0 + 1) (0 + 7) (MQ below (QWr (fun r' w' => r' = some (va_rf ((facL (facP n f1) 7 0).map aF)) ∧ w' = (strC k q v1 n 0 false f1)) D zCl A) args s 1 7 A) (F0 m 9 ls []) := by
    intro j
    induction j with
    | zero =>
      intro i hi hf ls hl
      obtain rfl : i = 7 := by omega
      refine lv_iload_n hx hb dX15_of_9 rfl (lv_at hl 0 rfl) ?_
      refine lv_iload_n hx hb dX15_of_10 rfl (lv_at hl 1 rfl) ?_
      refine lv_icmp_ge (tgt := 40) hx hb dX15_of_11 (by decide) (fun _ => ?_) (fun c1 => absurd (Int32.le_refl _) c1)
      refine lv_null hx hb dX15_of_40 ?_
      have hP := zdropP (x := (strC k q v1 n 0 false f1)) (y := [(q2, .inl (k 5, 7, .inr (.inr (.inr (.inr (fcA aF))))))]) hP
      have hD := zdropD (x := (strC k q v1 n 0 false f1)) (y := [(q2, .inl (k 5, 7, .inr (.inr (.inr (.inr (fcA aF))))))]) hD
      exact retW_n (Z := Z) hx hb hr (Or.inl ⟨_, rfl⟩) hlocks hP hD hS ⟨by rw [← hf]; rfl, rfl⟩ dX15_of_41
    | succ j ih =>
      intro i hi hf ls hl
      refine lv_iload_n hx hb dX15_of_9 rfl (lv_at hl 0 rfl) ?_
      refine lv_iload_n hx hb dX15_of_10 rfl (lv_at hl 1 rfl) ?_
      refine lv_icmp_ge (tgt := 40) hx hb dX15_of_11 (by decide) (fun c1 => absurd c1 (nI_ge (by omega) (by omega))) (fun _ => ?_)
      refine lv_aload_n hx hb dX15_of_14 rfl (lv_at hl 2 rfl) ?_
      refine lv_iload_n hx hb dX15_of_15 rfl (lv_at hl 0 rfl) ?_
      refine va_aldq hx hb hK hP 2 5 rfl rfl (vp_in_nI (show i < 7 by omega) (by omega)) dX15_of_16 ?_
      rw [nI_clamp (show i < 2 ^ 31 by omega)]
      refine lv_astore (lv' := [(4, .ref (aF i)), (3, .int (nI i)), (2, .int (nI 7)), (1, .ref q2), (0, .ref q)]) hx hb dX15_of_17 hl (by decide) rfl (fun ls hl => ?_)
      refine lv_aload hx hb dX15_of_19 (lv_at hl 0 rfl) ?_
      refine vk_getf hx hb ((hVl _ _ _ hz).2.2 i (by omega)) hS hown (hts _ q2541) (fun _ h9 => h9) dX15_of_21 ?_
      refine lv_aload_n hx hb dX15_of_24 rfl (lv_at hl 4 rfl) ?_
      have hi9 := fcS_lt i (by omega)
      have hne := zneS hStr hz hi9 hA0
      refine cRVg (C := "java/lang/String") (As := [.ref q]) ⟨hx, hb, hml, hown, hts⟩ hOK hz hS (hP.sub (ws' := (strC k q v1 n 0 false f1)) [0, 1] rfl) ((mtJ5_eqSC l D k Z hOK5 (fun A U H h => (hStr A U H h).2.2.1) (adK (fcS i)) (adV (fcS i)) (stL (fcS i)) (stC (fcS i)) (stN_l (fcS i) hi9) q v1 n f1 hn 0 false hne).mono (fun A U H h => ⟨h, (hStr A U H h).1.1 (fcS i) hi9⟩)) (kJ5_equals hts q1438 rfl rfl ⟨Nat.le_of_ble_eq_true rfl, Nat.le_of_ble_eq_true rfl⟩) (vk_recv (hStr _ _ _ hz).1 hi9 hS) rfl hl.1 rfl (lv_room (Nat.le_of_ble_eq_true rfl)) ⟨Nat.le_of_ble_eq_true rfl, Nat.le_of_ble_eq_true rfl⟩ dX15_of_25 ?_
      cases hv : facP n f1 i with
      | true =>
        refine lv_if_eq (tgt := 34) hx hb dX15_of_28 (by decide) (fun c1 => absurd (show bz (facP n f1 i) = 0 from c1) (by rw [hv]; decide)) (fun _ => ?_)
        refine lv_aload hx hb dX15_of_31 (lv_at hl 0 rfl) ?_
        have hP := zdropP (x := (strC k q v1 n 0 false f1)) (y := [(q2, .inl (k 5, 7, .inr (.inr (.inr (.inr (fcA aF))))))]) hP
        have hD := zdropD (x := (strC k q v1 n 0 false f1)) (y := [(q2, .inl (k 5, 7, .inr (.inr (.inr (.inr (fcA aF))))))]) hD
        exact retW_a hx hb hr (Or.inl ⟨_, rfl⟩) hlocks hP hD hS ⟨by rw [← hf]; unfold facL; rw [if_pos hv]; rfl, rfl⟩ dX15_of_33
      | false =>
        refine lv_if_eq (tgt := 34) hx hb dX15_of_28 (by decide) (fun _ => ?_) (fun c1 => absurd (show bz (facP n f1 i) = 0 by rw [hv]; rfl) c1)
        refine lv_iinc (v := nI i + 1) (lv' := [(3, .int (nI i + 1)), (4, .ref (aF i)), (2, .int (nI 7)), (1, .ref q2), (0, .ref q)]) hx hb dX15_of_34 hl (k := 1) rfl rfl (by decide) rfl (fun ls hl => ?_)
        rw [← nI_succ] at hl
        refine lv_goto (tgt := 9) hx hb dX15_of_37 (by decide) ?_
        exact ih (i + 1) (by omega) (by rw [← hf]; conv => rhs; unfold facL; rw [if_neg (by rw [hv]; decide)]) ls (lv_sub hl [0, 2, 3, 4] rfl)
  exact key 7 0 (by omega) rfl ls hl
