/-! THE LAW's LOOP: one lemma for each case -/
/-- what holds throughout the law's body -/
def lwC (p : Program) (s : State) (m : MethodId) (c : Code) (D : va_G) (k : Nat → ClassId) (Z : zZ) (b L : Nat) (xs : Nat → Int32) : Prop :=
  p.tables.exec = Jvm.exec ∧ c.code = cL_law ∧ c.maxLocals = 7 ∧ s.vm.findClass RX0 = some m.cls ∧ (∀ w ∈ lw_all, w.before #[Value.ref b] s = true) ∧ va_X b L xs s s.heap ∧ b < s.heap.size ∧ zOK D zCl (zTys k) Z ∧ Z (fun q => s.heap.size ≤ q) s s.heap
def sAt (xs : Nat → Int32) (L : Nat) (i j pj : Int32) : Prop := vp_in (i + j) L ∧ xs (i + j).toNatClampNeg = pj
def zn (x : Int32) : Bool := decide (¬ x = 0)
def g0 (g : Nat → Int64) : Int64 := g (Int32.toNatClampNeg (0 : Int32))
section
variable {p : Program} {l : Launch} {e : Env} {R : Room} {s : State} {m : MethodId} {args : Array Value} {below : List Frame} {meth : Method} {c : Code} {H : Heap} {locs : List Loc} {cells slots : Nat} {Q : State → Prop} {pc : Nat} {ls : Array Slot} {rest : List Value} {A : Nat → Prop} {cc : ByteArray}
theorem lv_lcmp_same (hexec : p.tables.exec = Jvm.exec) (hb : c.code = cc) {x : Int64} (hdg : decode cc pc = .ok (.lcmp, 1)) (k : W p l e R s m args below meth c H locs cells slots Q (F0 m (pc + 1) ls (.int (0 : Int32) :: rest))) : W p l e R s m args below meth c H locs cells slots Q (F0 m pc ls (.long x :: .long x :: rest)) := by
  intro T hT X
  obtain ⟨t, a, b⟩ := k T hT X
  refine ⟨t, ?_, b⟩
  have h1 : ¬ x > x := Int64.lt_irrefl
  have h2 : (x == x) = true := beq_self_eq_true x
  jvm_step X.here [X.here.top, hexec, hb, hdg, h1, h2]
  exact a
theorem lw_arg (hexec : p.tables.exec = Jvm.exec) (hb : c.code = cc) {b L : Nat} {xs : Nat → Int32} (hX : va_X b L xs s s.heap) (hbl : b < s.heap.size) (hbA : ¬ A b) (hS : va_S A s.heap H locs) {i j pj : Int32} {n : Int} (hj : sAt xs L i j pj) (h0 : ls[0]? = some (.val (.ref b))) (h4 : ls[4]? = some (.val (.int i))) (d0 : decode cc pc = .ok (.aload_n 0, 1)) (d1 : decode cc (pc + 1) = .ok (.iload 4, 2)) (d2 : decode cc (pc + 3) = .ok (.iconst n, 1)) (hn : Int32.ofInt n = j) (d3 : decode cc (pc + 4) = .ok (.iadd, 1)) (d4 : decode cc (pc + 5) = .ok (.iaload, 1))
    (k : W p l e R s m args below meth c H locs cells slots Q (F0 m (pc + 6) ls (.int pj :: rest))) : W p l e R s m args below meth c H locs cells slots Q (F0 m pc ls rest) := by
  refine lv_aload_n hexec hb d0 rfl h0 ?_
  refine lv_iload hexec hb d1 h4 ?_
  refine lv_iconst hexec hb d2 hn ?_
  refine lv_iadd hexec hb d3 ?_
  refine va_sld hexec hb hX hbl hbA hS hj.1 d4 ?_
  rw [hj.2]
  exact k
theorem lw_argz (hexec : p.tables.exec = Jvm.exec) (hb : c.code = cc) {x : Int32} (d0 : decode cc pc = .ok (.ifCond .eq 7, 3)) (d1 : decode cc (pc + 3) = .ok (.iconst 1, 1)) (d2 : decode cc (pc + 4) = .ok (.goto 4, 3)) (d3 : decode cc (pc + 7) = .ok (.iconst 0, 1))
    (k : W p l e R s m args below meth c H locs cells slots Q (F0 m (pc + 8) ls (.int (bz (zn x)) :: rest))) : W p l e R s m args below meth c H locs cells slots Q (F0 m pc ls (.int x :: rest)) := by
  refine lv_if_eq (tgt := pc + 7) hexec hb d0 (by omega) (fun c1 => ?_) (fun c1 => ?_)
  · refine lv_iconst (v := (0 : Int32)) hexec hb d3 (by decide) ?_
    have h : zn x = false := decide_eq_false (fun h => h c1)
    rw [h] at k
    exact k
  · refine lv_iconst (v := (1 : Int32)) hexec hb d1 (by decide) ?_
    refine lv_goto (tgt := pc + 8) hexec hb d2 (by omega) ?_
    have h : zn x = true := decide_eq_true c1
    rw [h] at k
    exact k
end
theorem ouIdx (X V F : va_W) (a : Nat × va_E) : (X ++ ((V ++ [a]) ++ F))[X.length + V.length]? = some a := by
  rw [List.getElem?_append_right (by omega), List.append_assoc, List.getElem?_append_right (by omega)]
  have h : X.length + V.length - X.length - V.length = 0 := by omega
  rw [h]
  rfl
/-- a wrapper's answer: a number, the out array, what is left -/
def PWo (k : Nat → ClassId) (ao : Nat) (P1 : Int32 → (Nat → Int64) → va_W → Prop) (r : Option Value) (w : va_W) : Prop := ∃ (x : Int32) (g : Nat → Int64) (V : va_W), P1 x g V ∧ r = some (.int x) ∧ w = V ++ [ouC k ao g]
def PXo (P1 : Int32 → va_W → Prop) (r : Option Value) (w : va_W) : Prop := ∃ x : Int32, P1 x w ∧ r = some (.int x)
set_option maxRecDepth 100000 in
theorem cs_feed {p : Program} {l : Launch} {e : Env} {s : State} {m : MethodId} {below : List Frame} {meth : Method} {c : Code} {Q : State → Prop} {D : va_G} {k : Nat → ClassId} {Z : zZ} {b L : Nat} {xs : Nat → Int32} (hC : lwC p s m c D k Z b L xs) {a6 : Nat → Nat} {h ao : Nat} {i : Int32} (wo F : va_W) {t t6 : Tw} {p1 : Int32} (hp1 : sAt xs L i 1 p1) {p2 : Int32} (hp2 : sAt xs L i 2 p2) {p3 : Int32} (hp3 : sAt xs L i 3 p3) {p4 : Int32} (hp4 : sAt xs L i 4 p4) {p5 : Int32} (hp5 : sAt xs L i 5 p5) {fs : List Value} (hws : wo[0]? = some (h, .inr (1, fs))) {rm : Room} {mc ms : Nat} {P1 : Int32 → va_W → Prop} {r6 : Int32} (hrc : rm.cells = mc) (hrs : rm.slots = ms) (hfr : rm.frames + 1 ≤ 8192 ∧ 8 + (6 + 11) + rm.locals ≤ 104096) (hM : CtW l yX1_feed cX1_feed 6 (some .int) rm Z D zCl wo [.ref h, .int p1, .int p2, .int p3, .int p4, .int p5] (PXo P1) mc ms) (hM6 : CtW l yX6_feed cX6_feed 8 (some .int) rX6_feed Z D zCl (cT k a6 t) [.ref (a6 0), .int p1, .int p2, .int p3, .int p4, .int p5] (fun r' w' => r' = some (.int r6) ∧ w' = cT k a6 t6) 0 0) (hrel : ∀ x V, P1 x V → x = r6) {H : Heap} {locs : List Loc} {cells slots : Nat} (hP : va_P D zCl (cT k a6 t ++ (wo ++ F)) H) (hD : va_D (fun q => s.heap.size ≤ q) (cT k a6 t ++ (wo ++ F))) (hS : va_S (fun q => s.heap.size ≤ q) s.heap H locs) (hcells : cells + mc ≤ 603072) (hslots : slots + ms ≤ 7190634) (kk : ∀ x V H locs, P1 x V → va_P D zCl (cT k a6 t6 ++ (V ++ F)) H → va_D (fun q => s.heap.size ≤ q) (cT k a6 t6 ++ (V ++ F)) → va_S (fun q => s.heap.size ≤ q) s.heap H locs → ∀ ls, lv_has ls 7 [(0, .ref b), (1, .ref h), (2, .ref (a6 0)), (3, .ref ao), (4, .int i)] → W p l e room_1 s m #[Value.ref b] below meth c H locs (cells + mc) (slots + ms) Q (F0 m 2965 ls [])) {ls : Array Slot} (hl : lv_has ls 7 [(0, .ref b), (1, .ref h), (2, .ref (a6 0)), (3, .ref ao), (4, .int i)]) : W p l e room_1 s m #[Value.ref b] below meth c H locs cells slots Q (F0 m 288 ls []) := by
  obtain ⟨hx, hb, hml, hown, hts, hX, hbl, hOK, hz⟩ := hC
  have hK := hOK.1 _ _ _ hz
  have hbA : ¬ (fun q => s.heap.size ≤ q) b := Nat.not_le.mpr hbl
  have hA : ∀ q : Nat, s.heap.size ≤ q → (fun q => s.heap.size ≤ q) q := fun _ h => h
  refine lv_aload_n hx hb dL_law_288 rfl (lv_at hl 1 rfl) ?_
  refine lw_arg (j := (1 : Int32)) hx hb hX hbl hbA hS hp1 (lv_at hl 0 rfl) (lv_at hl 4 rfl) dL_law_289 dL_law_290 dL_law_292 (by decide) dL_law_293 dL_law_294 ?_
  refine lw_arg (j := (2 : Int32)) hx hb hX hbl hbA hS hp2 (lv_at hl 0 rfl) (lv_at hl 4 rfl) dL_law_295 dL_law_296 dL_law_298 (by decide) dL_law_299 dL_law_300 ?_
  refine lw_arg (j := (3 : Int32)) hx hb hX hbl hbA hS hp3 (lv_at hl 0 rfl) (lv_at hl 4 rfl) dL_law_301 dL_law_302 dL_law_304 (by decide) dL_law_305 dL_law_306 ?_
  refine lw_arg (j := (4 : Int32)) hx hb hX hbl hbA hS hp4 (lv_at hl 0 rfl) (lv_at hl 4 rfl) dL_law_307 dL_law_308 dL_law_310 (by decide) dL_law_311 dL_law_312 ?_
  refine lw_arg (j := (5 : Int32)) hx hb hX hbl hbA hS hp5 (lv_at hl 0 rfl) (lv_at hl 4 rfl) dL_law_313 dL_law_314 dL_law_316 (by decide) dL_law_317 dL_law_318 ?_
  refine cWV (cT k a6 t) wo F (As := [.int p1, .int p2, .int p3, .int p4, .int p5]) (ci := 1) ⟨hx, hb, hml, hown, hts⟩ hOK hz hS hA hP hD hM (kX1_feed hts q402 hrc hrs ⟨(by show rm.frames + 1 ≤ 8192; omega), (by show 8 + (6 + 11) + rm.locals ≤ 104096; omega)⟩) 0 hws rfl rfl hl.1 rfl (lv_room (Nat.le_of_ble_eq_true rfl)) ⟨hcells, hslots⟩ dL_law_319 (fun r_ w_ H locs hq hP hD hS => ?_)
  obtain ⟨x, hq1, rfl⟩ := hq
  refine lv_aload_n hx hb dL_law_322 rfl (lv_at hl 2 rfl) ?_
  refine lw_arg (j := (1 : Int32)) hx hb hX hbl hbA hS hp1 (lv_at hl 0 rfl) (lv_at hl 4 rfl) dL_law_323 dL_law_324 dL_law_326 (by decide) dL_law_327 dL_law_328 ?_
  refine lw_arg (j := (2 : Int32)) hx hb hX hbl hbA hS hp2 (lv_at hl 0 rfl) (lv_at hl 4 rfl) dL_law_329 dL_law_330 dL_law_332 (by decide) dL_law_333 dL_law_334 ?_
  refine lw_arg (j := (3 : Int32)) hx hb hX hbl hbA hS hp3 (lv_at hl 0 rfl) (lv_at hl 4 rfl) dL_law_335 dL_law_336 dL_law_338 (by decide) dL_law_339 dL_law_340 ?_
  refine lw_arg (j := (4 : Int32)) hx hb hX hbl hbA hS hp4 (lv_at hl 0 rfl) (lv_at hl 4 rfl) dL_law_341 dL_law_342 dL_law_344 (by decide) dL_law_345 dL_law_346 ?_
  refine lw_arg (j := (5 : Int32)) hx hb hX hbl hbA hS hp5 (lv_at hl 0 rfl) (lv_at hl 4 rfl) dL_law_347 dL_law_348 dL_law_350 (by decide) dL_law_351 dL_law_352 ?_
  refine cWV [] (cT k a6 t) (w_ ++ F) (As := [.int p1, .int p2, .int p3, .int p4, .int p5]) (ci := 0) ⟨hx, hb, hml, hown, hts⟩ hOK hz hS hA hP hD hM6 (kX6_feed hts q1973 rfl rfl ⟨Nat.le_of_ble_eq_true rfl, Nat.le_of_ble_eq_true rfl⟩) 0 rfl rfl rfl hl.1 rfl (lv_room (Nat.le_of_ble_eq_true rfl)) ⟨hcells, hslots⟩ dL_law_353 (fun r_ w_6 H locs hq hP hD hS => ?_)
  obtain ⟨rfl, rfl⟩ := hq
  have hP : va_P D zCl (cT k a6 t6 ++ (w_ ++ F)) _ := hP
  have hD : va_D (fun q => s.heap.size ≤ q) (cT k a6 t6 ++ (w_ ++ F)) := hD
  have hre := hrel _ _ hq1
  subst hre
  refine lv_icmp_eq (tgt := 2965) hx hb dL_law_356 (by decide) (fun _ => ?_) (fun c1 => absurd rfl c1)
  exact kk _ _ _ _ hq1 hP hD hS _ hl
set_option maxRecDepth 100000 in
theorem cs_end {p : Program} {l : Launch} {e : Env} {s : State} {m : MethodId} {below : List Frame} {meth : Method} {c : Code} {Q : State → Prop} {D : va_G} {k : Nat → ClassId} {Z : zZ} {b L : Nat} {xs : Nat → Int32} (hC : lwC p s m c D k Z b L xs) {a6 : Nat → Nat} {h ao : Nat} {i : Int32} (wo F : va_W) {t t6 : Tw} {p1 : Int32} (hp1 : sAt xs L i 1 p1) {fs : List Value} (hws : wo[0]? = some (h, .inr (1, fs))) {rm : Room} {mc ms : Nat} {P1 : Int32 → va_W → Prop} {r6 : Bool} (hrc : rm.cells = mc) (hrs : rm.slots = ms) (hfr : rm.frames + 1 ≤ 8192 ∧ 8 + (2 + 11) + rm.locals ≤ 104096) (hM : CtW l yX1_end cX1_end 2 (some .boolean) rm Z D zCl wo [.ref h, .int p1] (PXo P1) mc ms) (hM6 : CtW l yX6_end cX6_end 2 (some .boolean) rX6_end Z D zCl (cT k a6 t) [.ref (a6 0), .int p1] (fun r' w' => r' = some (.int (bz r6)) ∧ w' = cT k a6 t6) 0 0) (hrel : ∀ x V, P1 x V → x = bz r6) {H : Heap} {locs : List Loc} {cells slots : Nat} (hP : va_P D zCl (cT k a6 t ++ (wo ++ F)) H) (hD : va_D (fun q => s.heap.size ≤ q) (cT k a6 t ++ (wo ++ F))) (hS : va_S (fun q => s.heap.size ≤ q) s.heap H locs) (hcells : cells + mc ≤ 603072) (hslots : slots + ms ≤ 7190634) (kk : ∀ x V H locs, P1 x V → va_P D zCl (cT k a6 t6 ++ (V ++ F)) H → va_D (fun q => s.heap.size ≤ q) (cT k a6 t6 ++ (V ++ F)) → va_S (fun q => s.heap.size ≤ q) s.heap H locs → ∀ ls, lv_has ls 7 [(0, .ref b), (1, .ref h), (2, .ref (a6 0)), (3, .ref ao), (4, .int i)] → W p l e room_1 s m #[Value.ref b] below meth c H locs (cells + mc) (slots + ms) Q (F0 m 2965 ls [])) {ls : Array Slot} (hl : lv_has ls 7 [(0, .ref b), (1, .ref h), (2, .ref (a6 0)), (3, .ref ao), (4, .int i)]) : W p l e room_1 s m #[Value.ref b] below meth c H locs cells slots Q (F0 m 361 ls []) := by
  obtain ⟨hx, hb, hml, hown, hts, hX, hbl, hOK, hz⟩ := hC
  have hK := hOK.1 _ _ _ hz
  have hbA : ¬ (fun q => s.heap.size ≤ q) b := Nat.not_le.mpr hbl
  have hA : ∀ q : Nat, s.heap.size ≤ q → (fun q => s.heap.size ≤ q) q := fun _ h => h
  refine lv_aload_n hx hb dL_law_361 rfl (lv_at hl 1 rfl) ?_
  refine lw_arg (j := (1 : Int32)) hx hb hX hbl hbA hS hp1 (lv_at hl 0 rfl) (lv_at hl 4 rfl) dL_law_362 dL_law_363 dL_law_365 (by decide) dL_law_366 dL_law_367 ?_
  refine cWV (cT k a6 t) wo F (As := [.int p1]) (ci := 1) ⟨hx, hb, hml, hown, hts⟩ hOK hz hS hA hP hD hM (kX1_end hts q410 hrc hrs ⟨(by show rm.frames + 1 ≤ 8192; omega), (by show 8 + (2 + 11) + rm.locals ≤ 104096; omega)⟩) 0 hws rfl rfl hl.1 rfl (lv_room (Nat.le_of_ble_eq_true rfl)) ⟨hcells, hslots⟩ dL_law_368 (fun r_ w_ H locs hq hP hD hS => ?_)
  obtain ⟨x, hq1, rfl⟩ := hq
  refine lv_aload_n hx hb dL_law_371 rfl (lv_at hl 2 rfl) ?_
  refine lw_arg (j := (1 : Int32)) hx hb hX hbl hbA hS hp1 (lv_at hl 0 rfl) (lv_at hl 4 rfl) dL_law_372 dL_law_373 dL_law_375 (by decide) dL_law_376 dL_law_377 ?_
  refine cWV [] (cT k a6 t) (w_ ++ F) (As := [.int p1]) (ci := 0) ⟨hx, hb, hml, hown, hts⟩ hOK hz hS hA hP hD hM6 (kX6_end hts q1977 rfl rfl ⟨Nat.le_of_ble_eq_true rfl, Nat.le_of_ble_eq_true rfl⟩) 0 rfl rfl rfl hl.1 rfl (lv_room (Nat.le_of_ble_eq_true rfl)) ⟨hcells, hslots⟩ dL_law_378 (fun r_ w_6 H locs hq hP hD hS => ?_)
  obtain ⟨rfl, rfl⟩ := hq
  have hP : va_P D zCl (cT k a6 t6 ++ (w_ ++ F)) _ := hP
  have hD : va_D (fun q => s.heap.size ≤ q) (cT k a6 t6 ++ (w_ ++ F)) := hD
  have hre := hrel _ _ hq1
  subst hre
  refine lv_icmp_eq (tgt := 2965) hx hb dL_law_381 (by decide) (fun _ => ?_) (fun c1 => absurd rfl c1)
  exact kk _ _ _ _ hq1 hP hD hS _ hl
set_option maxRecDepth 100000 in
theorem cs_house {p : Program} {l : Launch} {e : Env} {s : State} {m : MethodId} {below : List Frame} {meth : Method} {c : Code} {Q : State → Prop} {D : va_G} {k : Nat → ClassId} {Z : zZ} {b L : Nat} {xs : Nat → Int32} (hC : lwC p s m c D k Z b L xs) {a6 : Nat → Nat} {h ao : Nat} {i : Int32} (wo F : va_W) {t t6 : Tw} {rm : Room} {mc ms : Nat} {P1 : Int32 → (Nat → Int64) → va_W → Prop} {r6 : Int32} (hrc : rm.cells = mc) (hrs : rm.slots = ms) (hfr : rm.frames + 1 ≤ 8192 ∧ 8 + (3 + 11) + rm.locals ≤ 104096) (hM : CtXH l yX0_house cX0_house 3 (some .int) hhX0_house rm Z D zCl wo [.ref h, .ref ao] (PWo k ao P1) (fun _ _ => False) mc ms) (hM6 : CtW l yX6_house cX6_house 2 (some .int) rX6_house Z D zCl (cT k a6 t) [.ref (a6 0)] (fun r' w' => r' = some (.int r6) ∧ w' = cT k a6 t6) 0 0) (hrel : ∀ x g V, P1 x g V → fX6_thrown t6 = some x ∧ (x = 0 → g0 g = r6.toInt64)) {H : Heap} {locs : List Loc} {cells slots : Nat} (hP : va_P D zCl (cT k a6 t ++ (wo ++ F)) H) (hD : va_D (fun q => s.heap.size ≤ q) (cT k a6 t ++ (wo ++ F))) (hS : va_S (fun q => s.heap.size ≤ q) s.heap H locs) (hcells : cells + mc ≤ 603072) (hslots : slots + ms ≤ 7190634) (kk : ∀ x g V H locs, P1 x g V → va_P D zCl (cT k a6 t6 ++ ((V ++ [ouC k ao g]) ++ F)) H → va_D (fun q => s.heap.size ≤ q) (cT k a6 t6 ++ ((V ++ [ouC k ao g]) ++ F)) → va_S (fun q => s.heap.size ≤ q) s.heap H locs → ∀ ls, lv_has ls 7 [(0, .ref b), (1, .ref h), (2, .ref (a6 0)), (3, .ref ao), (4, .int i)] → W p l e room_1 s m #[Value.ref b] below meth c H locs (cells + mc) (slots + ms) Q (F0 m 2965 ls [])) {ls : Array Slot} (hl : lv_has ls 7 [(0, .ref b), (1, .ref h), (2, .ref (a6 0)), (3, .ref ao), (4, .int i)]) : W p l e room_1 s m #[Value.ref b] below meth c H locs cells slots Q (F0 m 386 ls []) := by
  obtain ⟨hx, hb, hml, hown, hts, hX, hbl, hOK, hz⟩ := hC
  have hK := hOK.1 _ _ _ hz
  have hbA : ¬ (fun q => s.heap.size ≤ q) b := Nat.not_le.mpr hbl
  have hA : ∀ q : Nat, s.heap.size ≤ q → (fun q => s.heap.size ≤ q) q := fun _ h => h
  refine lv_aload_n hx hb dL_law_386 rfl (lv_at hl 1 rfl) ?_
  refine lv_aload_n hx hb dL_law_387 rfl (lv_at hl 3 rfl) ?_
  refine cXSH (cT k a6 t) wo F (As := [.ref h, .ref ao]) ⟨hx, hb, hml, hown, hts⟩ hOK hz hS hA hP hD hM (kX0_house hts q749 hrc hrs ⟨(by show rm.frames + 1 ≤ 8192; omega), (by show 8 + (3 + 11) + rm.locals ≤ 104096; omega)⟩) rfl hl.1 rfl (lv_room (Nat.le_of_ble_eq_true rfl)) ⟨hcells, hslots⟩ dL_law_388 (fun E_ w_ ce_ q9_ H locs hq hP hD hS hce hcv hcl => hq.elim) (fun r_ w_ H locs hq hP hD hS => ?_)
  obtain ⟨x, g, V, hq1, rfl, rfl⟩ := hq
  refine lv_istore (lv' := [(5, .int x), (0, .ref b), (1, .ref h), (2, .ref (a6 0)), (3, .ref ao), (4, .int i)]) hx hb dL_law_391 hl (by decide) rfl (fun ls hl => ?_)
  refine lv_aload_n hx hb dL_law_393 rfl (lv_at hl 3 rfl) ?_
  refine cWV [] (cT k a6 t) ((V ++ [ouC k ao g]) ++ F) (As := []) (ci := 0) ⟨hx, hb, hml, hown, hts⟩ hOK hz hS hA hP hD hM6 (kX6_house hts q1984 rfl rfl ⟨Nat.le_of_ble_eq_true rfl, Nat.le_of_ble_eq_true rfl⟩) 0 rfl rfl rfl hl.1 rfl (lv_room (Nat.le_of_ble_eq_true rfl)) ⟨hcells, hslots⟩ dL_law_394 (fun r_ w_6 H locs hq hP hD hS => ?_)
  obtain ⟨rfl, rfl⟩ := hq
  have hP : va_P D zCl (cT k a6 t6 ++ ((V ++ [ouC k ao g]) ++ F)) _ := hP
  have hD : va_D (fun q => s.heap.size ≤ q) (cT k a6 t6 ++ ((V ++ [ouC k ao g]) ++ F)) := hD
  refine lv_istore (lv' := [(6, .int r6), (5, .int x), (0, .ref b), (1, .ref h), (2, .ref (a6 0)), (3, .ref ao), (4, .int i)]) hx hb dL_law_397 hl (by decide) rfl (fun ls hl => ?_)
  refine lv_aload_n hx hb dL_law_399 rfl (lv_at hl 4 rfl) ?_
  obtain ⟨hth, hge⟩ := hrel _ _ _ hq1
  refine cRV (As := []) (ci := 0) ⟨hx, hb, hml, hown, hts⟩ hOK hz hS (zdropP hP) (mtX6_thrown l D k a6 Z hOK t6 x hth) (kX6_thrown hts q1969 rfl rfl ⟨Nat.le_of_ble_eq_true rfl, Nat.le_of_ble_eq_true rfl⟩) 0 rfl rfl rfl hl.1 rfl (lv_room (Nat.le_of_ble_eq_true rfl)) ⟨(by show cells + mc ≤ 603072; exact hcells), (by show slots + ms ≤ 7190634; exact hslots)⟩ dL_law_400 ?_
  refine lv_iload hx hb dL_law_403 (lv_at hl 1 rfl) ?_
  refine lv_icmp_eq (tgt := 410) hx hb dL_law_405 (by decide) (fun _ => ?_) (fun c1 => absurd rfl c1)
  refine lv_iload hx hb dL_law_410 (lv_at hl 1 rfl) ?_
  refine lv_if_ne (tgt := 427) hx hb dL_law_412 (by decide) (fun _ => ?_) (fun c2 => ?_)
  · refine lv_goto (tgt := 2965) hx hb dL_law_427 (by decide) ?_
    exact kk _ _ _ _ _ hq1 hP hD hS _ (lv_sub hl [2, 3, 4, 5, 6] rfl)
  · refine lv_aload_n hx hb dL_law_415 rfl (lv_at hl 5 rfl) ?_
    refine lv_iconst (v := (0 : Int32)) hx hb dL_law_416 (by decide) ?_
    refine va_lald hx hb hK hP ((cT k a6 t6).length + V.length) 3 (ouIdx _ _ _ _) rfl out_in dL_law_417 ?_
    rw [show g (Int32.toNatClampNeg (0 : Int32)) = r6.toInt64 from hge c2]
    refine lv_iload hx hb dL_law_418 (lv_at hl 0 rfl) ?_
    refine lv_i2l (v := r6.toInt64) hx hb dL_law_420 rfl ?_
    refine lv_lcmp_same hx hb dL_law_421 ?_
    refine lv_if_eq (tgt := 427) hx hb dL_law_422 (by decide) (fun _ => ?_) (fun c3 => absurd rfl c3)
    refine lv_goto (tgt := 2965) hx hb dL_law_427 (by decide) ?_
    exact kk _ _ _ _ _ hq1 hP hD hS _ (lv_sub hl [2, 3, 4, 5, 6] rfl)
set_option maxRecDepth 100000 in
theorem cs_law {p : Program} {l : Launch} {e : Env} {s : State} {m : MethodId} {below : List Frame} {meth : Method} {c : Code} {Q : State → Prop} {D : va_G} {k : Nat → ClassId} {Z : zZ} {b L : Nat} {xs : Nat → Int32} (hC : lwC p s m c D k Z b L xs) {a6 : Nat → Nat} {h ao : Nat} {i : Int32} (wo F : va_W) {t t6 : Tw} {rm : Room} {mc ms : Nat} {P1 : Int32 → (Nat → Int64) → va_W → Prop} {r6 : Int32} (hrc : rm.cells = mc) (hrs : rm.slots = ms) (hfr : rm.frames + 1 ≤ 8192 ∧ 8 + (3 + 11) + rm.locals ≤ 104096) (hM : CtXH l yX0_law cX0_law 3 (some .int) hhX0_law rm Z D zCl wo [.ref h, .ref ao] (PWo k ao P1) (fun _ _ => False) mc ms) (hM6 : CtW l yX6_law cX6_law 3 (some .int) rX6_law Z D zCl (cT k a6 t) [.ref (a6 0)] (fun r' w' => r' = some (.int r6) ∧ w' = cT k a6 t6) 0 0) (hrel : ∀ x g V, P1 x g V → fX6_thrown t6 = some x ∧ (x = 0 → g0 g = r6.toInt64)) {H : Heap} {locs : List Loc} {cells slots : Nat} (hP : va_P D zCl (cT k a6 t ++ (wo ++ F)) H) (hD : va_D (fun q => s.heap.size ≤ q) (cT k a6 t ++ (wo ++ F))) (hS : va_S (fun q => s.heap.size ≤ q) s.heap H locs) (hcells : cells + mc ≤ 603072) (hslots : slots + ms ≤ 7190634) (kk : ∀ x g V H locs, P1 x g V → va_P D zCl (cT k a6 t6 ++ ((V ++ [ouC k ao g]) ++ F)) H → va_D (fun q => s.heap.size ≤ q) (cT k a6 t6 ++ ((V ++ [ouC k ao g]) ++ F)) → va_S (fun q => s.heap.size ≤ q) s.heap H locs → ∀ ls, lv_has ls 7 [(0, .ref b), (1, .ref h), (2, .ref (a6 0)), (3, .ref ao), (4, .int i)] → W p l e room_1 s m #[Value.ref b] below meth c H locs (cells + mc) (slots + ms) Q (F0 m 2965 ls [])) {ls : Array Slot} (hl : lv_has ls 7 [(0, .ref b), (1, .ref h), (2, .ref (a6 0)), (3, .ref ao), (4, .int i)]) : W p l e room_1 s m #[Value.ref b] below meth c H locs cells slots Q (F0 m 430 ls []) := by
  obtain ⟨hx, hb, hml, hown, hts, hX, hbl, hOK, hz⟩ := hC
  have hK := hOK.1 _ _ _ hz
  have hbA : ¬ (fun q => s.heap.size ≤ q) b := Nat.not_le.mpr hbl
  have hA : ∀ q : Nat, s.heap.size ≤ q → (fun q => s.heap.size ≤ q) q := fun _ h => h
  refine lv_aload_n hx hb dL_law_430 rfl (lv_at hl 1 rfl) ?_
  refine lv_aload_n hx hb dL_law_431 rfl (lv_at hl 3 rfl) ?_
  refine cXSH (cT k a6 t) wo F (As := [.ref h, .ref ao]) ⟨hx, hb, hml, hown, hts⟩ hOK hz hS hA hP hD hM (kX0_law hts q1296 hrc hrs ⟨(by show rm.frames + 1 ≤ 8192; omega), (by show 8 + (3 + 11) + rm.locals ≤ 104096; omega)⟩) rfl hl.1 rfl (lv_room (Nat.le_of_ble_eq_true rfl)) ⟨hcells, hslots⟩ dL_law_432 (fun E_ w_ ce_ q9_ H locs hq hP hD hS hce hcv hcl => hq.elim) (fun r_ w_ H locs hq hP hD hS => ?_)
  obtain ⟨x, g, V, hq1, rfl, rfl⟩ := hq
  refine lv_istore (lv' := [(5, .int x), (0, .ref b), (1, .ref h), (2, .ref (a6 0)), (3, .ref ao), (4, .int i)]) hx hb dL_law_435 hl (by decide) rfl (fun ls hl => ?_)
  refine lv_aload_n hx hb dL_law_437 rfl (lv_at hl 3 rfl) ?_
  refine cWV [] (cT k a6 t) ((V ++ [ouC k ao g]) ++ F) (As := []) (ci := 0) ⟨hx, hb, hml, hown, hts⟩ hOK hz hS hA hP hD hM6 (kX6_law hts q2120 rfl rfl ⟨Nat.le_of_ble_eq_true rfl, Nat.le_of_ble_eq_true rfl⟩) 0 rfl rfl rfl hl.1 rfl (lv_room (Nat.le_of_ble_eq_true rfl)) ⟨hcells, hslots⟩ dL_law_438 (fun r_ w_6 H locs hq hP hD hS => ?_)
  obtain ⟨rfl, rfl⟩ := hq
  have hP : va_P D zCl (cT k a6 t6 ++ ((V ++ [ouC k ao g]) ++ F)) _ := hP
  have hD : va_D (fun q => s.heap.size ≤ q) (cT k a6 t6 ++ ((V ++ [ouC k ao g]) ++ F)) := hD
  refine lv_istore (lv' := [(6, .int r6), (5, .int x), (0, .ref b), (1, .ref h), (2, .ref (a6 0)), (3, .ref ao), (4, .int i)]) hx hb dL_law_441 hl (by decide) rfl (fun ls hl => ?_)
  refine lv_aload_n hx hb dL_law_443 rfl (lv_at hl 4 rfl) ?_
  obtain ⟨hth, hge⟩ := hrel _ _ _ hq1
  refine cRV (As := []) (ci := 0) ⟨hx, hb, hml, hown, hts⟩ hOK hz hS (zdropP hP) (mtX6_thrown l D k a6 Z hOK t6 x hth) (kX6_thrown hts q1969 rfl rfl ⟨Nat.le_of_ble_eq_true rfl, Nat.le_of_ble_eq_true rfl⟩) 0 rfl rfl rfl hl.1 rfl (lv_room (Nat.le_of_ble_eq_true rfl)) ⟨(by show cells + mc ≤ 603072; exact hcells), (by show slots + ms ≤ 7190634; exact hslots)⟩ dL_law_444 ?_
  refine lv_iload hx hb dL_law_447 (lv_at hl 1 rfl) ?_
  refine lv_icmp_eq (tgt := 454) hx hb dL_law_449 (by decide) (fun _ => ?_) (fun c1 => absurd rfl c1)
  refine lv_iload hx hb dL_law_454 (lv_at hl 1 rfl) ?_
  refine lv_if_ne (tgt := 471) hx hb dL_law_456 (by decide) (fun _ => ?_) (fun c2 => ?_)
  · refine lv_goto (tgt := 2965) hx hb dL_law_471 (by decide) ?_
    exact kk _ _ _ _ _ hq1 hP hD hS _ (lv_sub hl [2, 3, 4, 5, 6] rfl)
  · refine lv_aload_n hx hb dL_law_459 rfl (lv_at hl 5 rfl) ?_
    refine lv_iconst (v := (0 : Int32)) hx hb dL_law_460 (by decide) ?_
    refine va_lald hx hb hK hP ((cT k a6 t6).length + V.length) 3 (ouIdx _ _ _ _) rfl out_in dL_law_461 ?_
    rw [show g (Int32.toNatClampNeg (0 : Int32)) = r6.toInt64 from hge c2]
    refine lv_iload hx hb dL_law_462 (lv_at hl 0 rfl) ?_
    refine lv_i2l (v := r6.toInt64) hx hb dL_law_464 rfl ?_
    refine lv_lcmp_same hx hb dL_law_465 ?_
    refine lv_if_eq (tgt := 471) hx hb dL_law_466 (by decide) (fun _ => ?_) (fun c3 => absurd rfl c3)
    refine lv_goto (tgt := 2965) hx hb dL_law_471 (by decide) ?_
    exact kk _ _ _ _ _ hq1 hP hD hS _ (lv_sub hl [2, 3, 4, 5, 6] rfl)
set_option maxRecDepth 100000 in
theorem cs_fault {p : Program} {l : Launch} {e : Env} {s : State} {m : MethodId} {below : List Frame} {meth : Method} {c : Code} {Q : State → Prop} {D : va_G} {k : Nat → ClassId} {Z : zZ} {b L : Nat} {xs : Nat → Int32} (hC : lwC p s m c D k Z b L xs) {a6 : Nat → Nat} {h ao : Nat} {i : Int32} (wo F : va_W) {t t6 : Tw} {fs : List Value} (hws : wo[0]? = some (h, .inr (1, fs))) {rm : Room} {mc ms : Nat} {P1 : Int32 → va_W → Prop} {r6 : Int32} (hrc : rm.cells = mc) (hrs : rm.slots = ms) (hfr : rm.frames + 1 ≤ 8192 ∧ 8 + (1 + 11) + rm.locals ≤ 104096) (hM : CtW l yX1_fault cX1_fault 1 (some .int) rm Z D zCl wo [.ref h] (PXo P1) mc ms) (hM6 : CtW l yX6_fault cX6_fault 1 (some .int) rX6_fault Z D zCl (cT k a6 t) [.ref (a6 0)] (fun r' w' => r' = some (.int r6) ∧ w' = cT k a6 t6) 0 0) (hrel : ∀ x V, P1 x V → x = r6) {H : Heap} {locs : List Loc} {cells slots : Nat} (hP : va_P D zCl (cT k a6 t ++ (wo ++ F)) H) (hD : va_D (fun q => s.heap.size ≤ q) (cT k a6 t ++ (wo ++ F))) (hS : va_S (fun q => s.heap.size ≤ q) s.heap H locs) (hcells : cells + mc ≤ 603072) (hslots : slots + ms ≤ 7190634) (kk : ∀ x V H locs, P1 x V → va_P D zCl (cT k a6 t6 ++ (V ++ F)) H → va_D (fun q => s.heap.size ≤ q) (cT k a6 t6 ++ (V ++ F)) → va_S (fun q => s.heap.size ≤ q) s.heap H locs → ∀ ls, lv_has ls 7 [(0, .ref b), (1, .ref h), (2, .ref (a6 0)), (3, .ref ao), (4, .int i)] → W p l e room_1 s m #[Value.ref b] below meth c H locs (cells + mc) (slots + ms) Q (F0 m 2965 ls [])) {ls : Array Slot} (hl : lv_has ls 7 [(0, .ref b), (1, .ref h), (2, .ref (a6 0)), (3, .ref ao), (4, .int i)]) : W p l e room_1 s m #[Value.ref b] below meth c H locs cells slots Q (F0 m 474 ls []) := by
  obtain ⟨hx, hb, hml, hown, hts, hX, hbl, hOK, hz⟩ := hC
  have hK := hOK.1 _ _ _ hz
  have hbA : ¬ (fun q => s.heap.size ≤ q) b := Nat.not_le.mpr hbl
  have hA : ∀ q : Nat, s.heap.size ≤ q → (fun q => s.heap.size ≤ q) q := fun _ h => h
  refine lv_aload_n hx hb dL_law_474 rfl (lv_at hl 1 rfl) ?_
  refine cWV (cT k a6 t) wo F (As := []) (ci := 1) ⟨hx, hb, hml, hown, hts⟩ hOK hz hS hA hP hD hM (kX1_fault hts q418 hrc hrs ⟨(by show rm.frames + 1 ≤ 8192; omega), (by show 8 + (1 + 11) + rm.locals ≤ 104096; omega)⟩) 0 hws rfl rfl hl.1 rfl (lv_room (Nat.le_of_ble_eq_true rfl)) ⟨hcells, hslots⟩ dL_law_475 (fun r_ w_ H locs hq hP hD hS => ?_)
  obtain ⟨x, hq1, rfl⟩ := hq
  refine lv_aload_n hx hb dL_law_478 rfl (lv_at hl 2 rfl) ?_
  refine cWV [] (cT k a6 t) (w_ ++ F) (As := []) (ci := 0) ⟨hx, hb, hml, hown, hts⟩ hOK hz hS hA hP hD hM6 (kX6_fault hts q2124 rfl rfl ⟨Nat.le_of_ble_eq_true rfl, Nat.le_of_ble_eq_true rfl⟩) 0 rfl rfl rfl hl.1 rfl (lv_room (Nat.le_of_ble_eq_true rfl)) ⟨hcells, hslots⟩ dL_law_479 (fun r_ w_6 H locs hq hP hD hS => ?_)
  obtain ⟨rfl, rfl⟩ := hq
  have hP : va_P D zCl (cT k a6 t6 ++ (w_ ++ F)) _ := hP
  have hD : va_D (fun q => s.heap.size ≤ q) (cT k a6 t6 ++ (w_ ++ F)) := hD
  have hre := hrel _ _ hq1
  subst hre
  refine lv_icmp_eq (tgt := 2965) hx hb dL_law_482 (by decide) (fun _ => ?_) (fun c1 => absurd rfl c1)
  exact kk _ _ _ _ hq1 hP hD hS _ hl
set_option maxRecDepth 100000 in
theorem cs_guest {p : Program} {l : Launch} {e : Env} {s : State} {m : MethodId} {below : List Frame} {meth : Method} {c : Code} {Q : State → Prop} {D : va_G} {k : Nat → ClassId} {Z : zZ} {b L : Nat} {xs : Nat → Int32} (hC : lwC p s m c D k Z b L xs) {a6 : Nat → Nat} {h ao : Nat} {i : Int32} (wo F : va_W) {t t6 : Tw} {p1 : Int32} (hp1 : sAt xs L i 1 p1) {p2 : Int32} (hp2 : sAt xs L i 2 p2) {rm : Room} {mc ms : Nat} {P1 : Int32 → (Nat → Int64) → va_W → Prop} {r6 : Int32} (hrc : rm.cells = mc) (hrs : rm.slots = ms) (hfr : rm.frames + 1 ≤ 8192 ∧ 8 + (5 + 11) + rm.locals ≤ 104096) (hM : CtXH l yX0_guest cX0_guest 5 (some .int) hhX0_guest rm Z D zCl wo [.ref h, .int p1, .int p2, .ref ao] (PWo k ao P1) (fun _ _ => False) mc ms) (hM6 : CtW l yX6_guest cX6_guest 5 (some .int) rX6_guest Z D zCl (cT k a6 t) [.ref (a6 0), .int p1, .int p2] (fun r' w' => r' = some (.int r6) ∧ w' = cT k a6 t6) 0 0) (hrel : ∀ x g V, P1 x g V → fX6_thrown t6 = some x ∧ (x = 0 → g0 g = r6.toInt64)) {H : Heap} {locs : List Loc} {cells slots : Nat} (hP : va_P D zCl (cT k a6 t ++ (wo ++ F)) H) (hD : va_D (fun q => s.heap.size ≤ q) (cT k a6 t ++ (wo ++ F))) (hS : va_S (fun q => s.heap.size ≤ q) s.heap H locs) (hcells : cells + mc ≤ 603072) (hslots : slots + ms ≤ 7190634) (kk : ∀ x g V H locs, P1 x g V → va_P D zCl (cT k a6 t6 ++ ((V ++ [ouC k ao g]) ++ F)) H → va_D (fun q => s.heap.size ≤ q) (cT k a6 t6 ++ ((V ++ [ouC k ao g]) ++ F)) → va_S (fun q => s.heap.size ≤ q) s.heap H locs → ∀ ls, lv_has ls 7 [(0, .ref b), (1, .ref h), (2, .ref (a6 0)), (3, .ref ao), (4, .int i)] → W p l e room_1 s m #[Value.ref b] below meth c H locs (cells + mc) (slots + ms) Q (F0 m 2965 ls [])) {ls : Array Slot} (hl : lv_has ls 7 [(0, .ref b), (1, .ref h), (2, .ref (a6 0)), (3, .ref ao), (4, .int i)]) : W p l e room_1 s m #[Value.ref b] below meth c H locs cells slots Q (F0 m 487 ls []) := by
  obtain ⟨hx, hb, hml, hown, hts, hX, hbl, hOK, hz⟩ := hC
  have hK := hOK.1 _ _ _ hz
  have hbA : ¬ (fun q => s.heap.size ≤ q) b := Nat.not_le.mpr hbl
  have hA : ∀ q : Nat, s.heap.size ≤ q → (fun q => s.heap.size ≤ q) q := fun _ h => h
  refine lv_aload_n hx hb dL_law_487 rfl (lv_at hl 1 rfl) ?_
  refine lw_arg (j := (1 : Int32)) hx hb hX hbl hbA hS hp1 (lv_at hl 0 rfl) (lv_at hl 4 rfl) dL_law_488 dL_law_489 dL_law_491 (by decide) dL_law_492 dL_law_493 ?_
  refine lw_arg (j := (2 : Int32)) hx hb hX hbl hbA hS hp2 (lv_at hl 0 rfl) (lv_at hl 4 rfl) dL_law_494 dL_law_495 dL_law_497 (by decide) dL_law_498 dL_law_499 ?_
  refine lv_aload_n hx hb dL_law_500 rfl (lv_at hl 3 rfl) ?_
  refine cXSH (cT k a6 t) wo F (As := [.ref h, .int p1, .int p2, .ref ao]) ⟨hx, hb, hml, hown, hts⟩ hOK hz hS hA hP hD hM (kX0_guest hts q1525 hrc hrs ⟨(by show rm.frames + 1 ≤ 8192; omega), (by show 8 + (5 + 11) + rm.locals ≤ 104096; omega)⟩) rfl hl.1 rfl (lv_room (Nat.le_of_ble_eq_true rfl)) ⟨hcells, hslots⟩ dL_law_501 (fun E_ w_ ce_ q9_ H locs hq hP hD hS hce hcv hcl => hq.elim) (fun r_ w_ H locs hq hP hD hS => ?_)
  obtain ⟨x, g, V, hq1, rfl, rfl⟩ := hq
  refine lv_istore (lv' := [(5, .int x), (0, .ref b), (1, .ref h), (2, .ref (a6 0)), (3, .ref ao), (4, .int i)]) hx hb dL_law_504 hl (by decide) rfl (fun ls hl => ?_)
  refine lv_aload_n hx hb dL_law_506 rfl (lv_at hl 3 rfl) ?_
  refine lw_arg (j := (1 : Int32)) hx hb hX hbl hbA hS hp1 (lv_at hl 1 rfl) (lv_at hl 5 rfl) dL_law_507 dL_law_508 dL_law_510 (by decide) dL_law_511 dL_law_512 ?_
  refine lw_arg (j := (2 : Int32)) hx hb hX hbl hbA hS hp2 (lv_at hl 1 rfl) (lv_at hl 5 rfl) dL_law_513 dL_law_514 dL_law_516 (by decide) dL_law_517 dL_law_518 ?_
  refine cWV [] (cT k a6 t) ((V ++ [ouC k ao g]) ++ F) (As := [.int p1, .int p2]) (ci := 0) ⟨hx, hb, hml, hown, hts⟩ hOK hz hS hA hP hD hM6 (kX6_guest hts q2128 rfl rfl ⟨Nat.le_of_ble_eq_true rfl, Nat.le_of_ble_eq_true rfl⟩) 0 rfl rfl rfl hl.1 rfl (lv_room (Nat.le_of_ble_eq_true rfl)) ⟨hcells, hslots⟩ dL_law_519 (fun r_ w_6 H locs hq hP hD hS => ?_)
  obtain ⟨rfl, rfl⟩ := hq
  have hP : va_P D zCl (cT k a6 t6 ++ ((V ++ [ouC k ao g]) ++ F)) _ := hP
  have hD : va_D (fun q => s.heap.size ≤ q) (cT k a6 t6 ++ ((V ++ [ouC k ao g]) ++ F)) := hD
  refine lv_istore (lv' := [(6, .int r6), (5, .int x), (0, .ref b), (1, .ref h), (2, .ref (a6 0)), (3, .ref ao), (4, .int i)]) hx hb dL_law_522 hl (by decide) rfl (fun ls hl => ?_)
  refine lv_aload_n hx hb dL_law_524 rfl (lv_at hl 4 rfl) ?_
  obtain ⟨hth, hge⟩ := hrel _ _ _ hq1
  refine cRV (As := []) (ci := 0) ⟨hx, hb, hml, hown, hts⟩ hOK hz hS (zdropP hP) (mtX6_thrown l D k a6 Z hOK t6 x hth) (kX6_thrown hts q1969 rfl rfl ⟨Nat.le_of_ble_eq_true rfl, Nat.le_of_ble_eq_true rfl⟩) 0 rfl rfl rfl hl.1 rfl (lv_room (Nat.le_of_ble_eq_true rfl)) ⟨(by show cells + mc ≤ 603072; exact hcells), (by show slots + ms ≤ 7190634; exact hslots)⟩ dL_law_525 ?_
  refine lv_iload hx hb dL_law_528 (lv_at hl 1 rfl) ?_
  refine lv_icmp_eq (tgt := 535) hx hb dL_law_530 (by decide) (fun _ => ?_) (fun c1 => absurd rfl c1)
  refine lv_iload hx hb dL_law_535 (lv_at hl 1 rfl) ?_
  refine lv_if_ne (tgt := 552) hx hb dL_law_537 (by decide) (fun _ => ?_) (fun c2 => ?_)
  · refine lv_goto (tgt := 2965) hx hb dL_law_552 (by decide) ?_
    exact kk _ _ _ _ _ hq1 hP hD hS _ (lv_sub hl [2, 3, 4, 5, 6] rfl)
  · refine lv_aload_n hx hb dL_law_540 rfl (lv_at hl 5 rfl) ?_
    refine lv_iconst (v := (0 : Int32)) hx hb dL_law_541 (by decide) ?_
    refine va_lald hx hb hK hP ((cT k a6 t6).length + V.length) 3 (ouIdx _ _ _ _) rfl out_in dL_law_542 ?_
    rw [show g (Int32.toNatClampNeg (0 : Int32)) = r6.toInt64 from hge c2]
    refine lv_iload hx hb dL_law_543 (lv_at hl 0 rfl) ?_
    refine lv_i2l (v := r6.toInt64) hx hb dL_law_545 rfl ?_
    refine lv_lcmp_same hx hb dL_law_546 ?_
    refine lv_if_eq (tgt := 552) hx hb dL_law_547 (by decide) (fun _ => ?_) (fun c3 => absurd rfl c3)
    refine lv_goto (tgt := 2965) hx hb dL_law_552 (by decide) ?_
    exact kk _ _ _ _ _ hq1 hP hD hS _ (lv_sub hl [2, 3, 4, 5, 6] rfl)
set_option maxRecDepth 100000 in
theorem cs_room {p : Program} {l : Launch} {e : Env} {s : State} {m : MethodId} {below : List Frame} {meth : Method} {c : Code} {Q : State → Prop} {D : va_G} {k : Nat → ClassId} {Z : zZ} {b L : Nat} {xs : Nat → Int32} (hC : lwC p s m c D k Z b L xs) {a6 : Nat → Nat} {h ao : Nat} {i : Int32} (wo F : va_W) {t t6 : Tw} {p1 : Int32} (hp1 : sAt xs L i 1 p1) {p2 : Int32} (hp2 : sAt xs L i 2 p2) {rm : Room} {mc ms : Nat} {P1 : Int32 → (Nat → Int64) → va_W → Prop} {r6 : Int32} (hrc : rm.cells = mc) (hrs : rm.slots = ms) (hfr : rm.frames + 1 ≤ 8192 ∧ 8 + (5 + 11) + rm.locals ≤ 104096) (hM : CtXH l yX0_room cX0_room 5 (some .int) hhX0_room rm Z D zCl wo [.ref h, .int p1, .int p2, .ref ao] (PWo k ao P1) (fun _ _ => False) mc ms) (hM6 : CtW l yX6_room cX6_room 3 (some .int) rX6_room Z D zCl (cT k a6 t) [.ref (a6 0), .int p1, .int p2] (fun r' w' => r' = some (.int r6) ∧ w' = cT k a6 t6) 0 0) (hrel : ∀ x g V, P1 x g V → fX6_thrown t6 = some x ∧ (x = 0 → g0 g = r6.toInt64)) {H : Heap} {locs : List Loc} {cells slots : Nat} (hP : va_P D zCl (cT k a6 t ++ (wo ++ F)) H) (hD : va_D (fun q => s.heap.size ≤ q) (cT k a6 t ++ (wo ++ F))) (hS : va_S (fun q => s.heap.size ≤ q) s.heap H locs) (hcells : cells + mc ≤ 603072) (hslots : slots + ms ≤ 7190634) (kk : ∀ x g V H locs, P1 x g V → va_P D zCl (cT k a6 t6 ++ ((V ++ [ouC k ao g]) ++ F)) H → va_D (fun q => s.heap.size ≤ q) (cT k a6 t6 ++ ((V ++ [ouC k ao g]) ++ F)) → va_S (fun q => s.heap.size ≤ q) s.heap H locs → ∀ ls, lv_has ls 7 [(0, .ref b), (1, .ref h), (2, .ref (a6 0)), (3, .ref ao), (4, .int i)] → W p l e room_1 s m #[Value.ref b] below meth c H locs (cells + mc) (slots + ms) Q (F0 m 2965 ls [])) {ls : Array Slot} (hl : lv_has ls 7 [(0, .ref b), (1, .ref h), (2, .ref (a6 0)), (3, .ref ao), (4, .int i)]) : W p l e room_1 s m #[Value.ref b] below meth c H locs cells slots Q (F0 m 555 ls []) := by
  obtain ⟨hx, hb, hml, hown, hts, hX, hbl, hOK, hz⟩ := hC
  have hK := hOK.1 _ _ _ hz
  have hbA : ¬ (fun q => s.heap.size ≤ q) b := Nat.not_le.mpr hbl
  have hA : ∀ q : Nat, s.heap.size ≤ q → (fun q => s.heap.size ≤ q) q := fun _ h => h
  refine lv_aload_n hx hb dL_law_555 rfl (lv_at hl 1 rfl) ?_
  refine lw_arg (j := (1 : Int32)) hx hb hX hbl hbA hS hp1 (lv_at hl 0 rfl) (lv_at hl 4 rfl) dL_law_556 dL_law_557 dL_law_559 (by decide) dL_law_560 dL_law_561 ?_
  refine lw_arg (j := (2 : Int32)) hx hb hX hbl hbA hS hp2 (lv_at hl 0 rfl) (lv_at hl 4 rfl) dL_law_562 dL_law_563 dL_law_565 (by decide) dL_law_566 dL_law_567 ?_
  refine lv_aload_n hx hb dL_law_568 rfl (lv_at hl 3 rfl) ?_
  refine cXSH (cT k a6 t) wo F (As := [.ref h, .int p1, .int p2, .ref ao]) ⟨hx, hb, hml, hown, hts⟩ hOK hz hS hA hP hD hM (kX0_room hts q1596 hrc hrs ⟨(by show rm.frames + 1 ≤ 8192; omega), (by show 8 + (5 + 11) + rm.locals ≤ 104096; omega)⟩) rfl hl.1 rfl (lv_room (Nat.le_of_ble_eq_true rfl)) ⟨hcells, hslots⟩ dL_law_569 (fun E_ w_ ce_ q9_ H locs hq hP hD hS hce hcv hcl => hq.elim) (fun r_ w_ H locs hq hP hD hS => ?_)
  obtain ⟨x, g, V, hq1, rfl, rfl⟩ := hq
  refine lv_istore (lv' := [(5, .int x), (0, .ref b), (1, .ref h), (2, .ref (a6 0)), (3, .ref ao), (4, .int i)]) hx hb dL_law_572 hl (by decide) rfl (fun ls hl => ?_)
  refine lv_aload_n hx hb dL_law_574 rfl (lv_at hl 3 rfl) ?_
  refine lw_arg (j := (1 : Int32)) hx hb hX hbl hbA hS hp1 (lv_at hl 1 rfl) (lv_at hl 5 rfl) dL_law_575 dL_law_576 dL_law_578 (by decide) dL_law_579 dL_law_580 ?_
  refine lw_arg (j := (2 : Int32)) hx hb hX hbl hbA hS hp2 (lv_at hl 1 rfl) (lv_at hl 5 rfl) dL_law_581 dL_law_582 dL_law_584 (by decide) dL_law_585 dL_law_586 ?_
  refine cWV [] (cT k a6 t) ((V ++ [ouC k ao g]) ++ F) (As := [.int p1, .int p2]) (ci := 0) ⟨hx, hb, hml, hown, hts⟩ hOK hz hS hA hP hD hM6 (kX6_room hts q2178 rfl rfl ⟨Nat.le_of_ble_eq_true rfl, Nat.le_of_ble_eq_true rfl⟩) 0 rfl rfl rfl hl.1 rfl (lv_room (Nat.le_of_ble_eq_true rfl)) ⟨hcells, hslots⟩ dL_law_587 (fun r_ w_6 H locs hq hP hD hS => ?_)
  obtain ⟨rfl, rfl⟩ := hq
  have hP : va_P D zCl (cT k a6 t6 ++ ((V ++ [ouC k ao g]) ++ F)) _ := hP
  have hD : va_D (fun q => s.heap.size ≤ q) (cT k a6 t6 ++ ((V ++ [ouC k ao g]) ++ F)) := hD
  refine lv_istore (lv' := [(6, .int r6), (5, .int x), (0, .ref b), (1, .ref h), (2, .ref (a6 0)), (3, .ref ao), (4, .int i)]) hx hb dL_law_590 hl (by decide) rfl (fun ls hl => ?_)
  refine lv_aload_n hx hb dL_law_592 rfl (lv_at hl 4 rfl) ?_
  obtain ⟨hth, hge⟩ := hrel _ _ _ hq1
  refine cRV (As := []) (ci := 0) ⟨hx, hb, hml, hown, hts⟩ hOK hz hS (zdropP hP) (mtX6_thrown l D k a6 Z hOK t6 x hth) (kX6_thrown hts q1969 rfl rfl ⟨Nat.le_of_ble_eq_true rfl, Nat.le_of_ble_eq_true rfl⟩) 0 rfl rfl rfl hl.1 rfl (lv_room (Nat.le_of_ble_eq_true rfl)) ⟨(by show cells + mc ≤ 603072; exact hcells), (by show slots + ms ≤ 7190634; exact hslots)⟩ dL_law_593 ?_
  refine lv_iload hx hb dL_law_596 (lv_at hl 1 rfl) ?_
  refine lv_icmp_eq (tgt := 603) hx hb dL_law_598 (by decide) (fun _ => ?_) (fun c1 => absurd rfl c1)
  refine lv_iload hx hb dL_law_603 (lv_at hl 1 rfl) ?_
  refine lv_if_ne (tgt := 620) hx hb dL_law_605 (by decide) (fun _ => ?_) (fun c2 => ?_)
  · refine lv_goto (tgt := 2965) hx hb dL_law_620 (by decide) ?_
    exact kk _ _ _ _ _ hq1 hP hD hS _ (lv_sub hl [2, 3, 4, 5, 6] rfl)
  · refine lv_aload_n hx hb dL_law_608 rfl (lv_at hl 5 rfl) ?_
    refine lv_iconst (v := (0 : Int32)) hx hb dL_law_609 (by decide) ?_
    refine va_lald hx hb hK hP ((cT k a6 t6).length + V.length) 3 (ouIdx _ _ _ _) rfl out_in dL_law_610 ?_
    rw [show g (Int32.toNatClampNeg (0 : Int32)) = r6.toInt64 from hge c2]
    refine lv_iload hx hb dL_law_611 (lv_at hl 0 rfl) ?_
    refine lv_i2l (v := r6.toInt64) hx hb dL_law_613 rfl ?_
    refine lv_lcmp_same hx hb dL_law_614 ?_
    refine lv_if_eq (tgt := 620) hx hb dL_law_615 (by decide) (fun _ => ?_) (fun c3 => absurd rfl c3)
    refine lv_goto (tgt := 2965) hx hb dL_law_620 (by decide) ?_
    exact kk _ _ _ _ _ hq1 hP hD hS _ (lv_sub hl [2, 3, 4, 5, 6] rfl)
set_option maxRecDepth 100000 in
theorem cs_calendar {p : Program} {l : Launch} {e : Env} {s : State} {m : MethodId} {below : List Frame} {meth : Method} {c : Code} {Q : State → Prop} {D : va_G} {k : Nat → ClassId} {Z : zZ} {b L : Nat} {xs : Nat → Int32} (hC : lwC p s m c D k Z b L xs) {a6 : Nat → Nat} {h ao : Nat} {i : Int32} (wo F : va_W) {t t6 : Tw} {p1 : Int32} (hp1 : sAt xs L i 1 p1) {p2 : Int32} (hp2 : sAt xs L i 2 p2) {rm : Room} {mc ms : Nat} {P1 : Int32 → (Nat → Int64) → va_W → Prop} {r6 : Int32} (hrc : rm.cells = mc) (hrs : rm.slots = ms) (hfr : rm.frames + 1 ≤ 8192 ∧ 8 + (5 + 11) + rm.locals ≤ 104096) (hM : CtXH l yX0_calendar cX0_calendar 5 (some .int) hhX0_calendar rm Z D zCl wo [.ref h, .int p1, .int (bz (zn p2)), .ref ao] (PWo k ao P1) (fun _ _ => False) mc ms) (hM6 : CtW l yX6_calendar cX6_calendar 4 (some .int) rX6_calendar Z D zCl (cT k a6 t) [.ref (a6 0), .int p1, .int (bz (zn p2))] (fun r' w' => r' = some (.int r6) ∧ w' = cT k a6 t6) 0 0) (hrel : ∀ x g V, P1 x g V → fX6_thrown t6 = some x ∧ (x = 0 → g0 g = r6.toInt64)) {H : Heap} {locs : List Loc} {cells slots : Nat} (hP : va_P D zCl (cT k a6 t ++ (wo ++ F)) H) (hD : va_D (fun q => s.heap.size ≤ q) (cT k a6 t ++ (wo ++ F))) (hS : va_S (fun q => s.heap.size ≤ q) s.heap H locs) (hcells : cells + mc ≤ 603072) (hslots : slots + ms ≤ 7190634) (kk : ∀ x g V H locs, P1 x g V → va_P D zCl (cT k a6 t6 ++ ((V ++ [ouC k ao g]) ++ F)) H → va_D (fun q => s.heap.size ≤ q) (cT k a6 t6 ++ ((V ++ [ouC k ao g]) ++ F)) → va_S (fun q => s.heap.size ≤ q) s.heap H locs → ∀ ls, lv_has ls 7 [(0, .ref b), (1, .ref h), (2, .ref (a6 0)), (3, .ref ao), (4, .int i)] → W p l e room_1 s m #[Value.ref b] below meth c H locs (cells + mc) (slots + ms) Q (F0 m 2965 ls [])) {ls : Array Slot} (hl : lv_has ls 7 [(0, .ref b), (1, .ref h), (2, .ref (a6 0)), (3, .ref ao), (4, .int i)]) : W p l e room_1 s m #[Value.ref b] below meth c H locs cells slots Q (F0 m 623 ls []) := by
  obtain ⟨hx, hb, hml, hown, hts, hX, hbl, hOK, hz⟩ := hC
  have hK := hOK.1 _ _ _ hz
  have hbA : ¬ (fun q => s.heap.size ≤ q) b := Nat.not_le.mpr hbl
  have hA : ∀ q : Nat, s.heap.size ≤ q → (fun q => s.heap.size ≤ q) q := fun _ h => h
  refine lv_aload_n hx hb dL_law_623 rfl (lv_at hl 1 rfl) ?_
  refine lw_arg (j := (1 : Int32)) hx hb hX hbl hbA hS hp1 (lv_at hl 0 rfl) (lv_at hl 4 rfl) dL_law_624 dL_law_625 dL_law_627 (by decide) dL_law_628 dL_law_629 ?_
  refine lw_arg (j := (2 : Int32)) hx hb hX hbl hbA hS hp2 (lv_at hl 0 rfl) (lv_at hl 4 rfl) dL_law_630 dL_law_631 dL_law_633 (by decide) dL_law_634 dL_law_635 ?_
  refine lw_argz hx hb dL_law_636 dL_law_639 dL_law_640 dL_law_643 ?_
  refine lv_aload_n hx hb dL_law_644 rfl (lv_at hl 3 rfl) ?_
  refine cXSH (cT k a6 t) wo F (As := [.ref h, .int p1, .int (bz (zn p2)), .ref ao]) ⟨hx, hb, hml, hown, hts⟩ hOK hz hS hA hP hD hM (kX0_calendar hts q1606 hrc hrs ⟨(by show rm.frames + 1 ≤ 8192; omega), (by show 8 + (5 + 11) + rm.locals ≤ 104096; omega)⟩) rfl hl.1 rfl (lv_room (Nat.le_of_ble_eq_true rfl)) ⟨hcells, hslots⟩ dL_law_645 (fun E_ w_ ce_ q9_ H locs hq hP hD hS hce hcv hcl => hq.elim) (fun r_ w_ H locs hq hP hD hS => ?_)
  obtain ⟨x, g, V, hq1, rfl, rfl⟩ := hq
  refine lv_istore (lv' := [(5, .int x), (0, .ref b), (1, .ref h), (2, .ref (a6 0)), (3, .ref ao), (4, .int i)]) hx hb dL_law_648 hl (by decide) rfl (fun ls hl => ?_)
  refine lv_aload_n hx hb dL_law_650 rfl (lv_at hl 3 rfl) ?_
  refine lw_arg (j := (1 : Int32)) hx hb hX hbl hbA hS hp1 (lv_at hl 1 rfl) (lv_at hl 5 rfl) dL_law_651 dL_law_652 dL_law_654 (by decide) dL_law_655 dL_law_656 ?_
  refine lw_arg (j := (2 : Int32)) hx hb hX hbl hbA hS hp2 (lv_at hl 1 rfl) (lv_at hl 5 rfl) dL_law_657 dL_law_658 dL_law_660 (by decide) dL_law_661 dL_law_662 ?_
  refine lw_argz hx hb dL_law_663 dL_law_666 dL_law_667 dL_law_670 ?_
  refine cWV [] (cT k a6 t) ((V ++ [ouC k ao g]) ++ F) (As := [.int p1, .int (bz (zn p2))]) (ci := 0) ⟨hx, hb, hml, hown, hts⟩ hOK hz hS hA hP hD hM6 (kX6_calendar hts q2197 rfl rfl ⟨Nat.le_of_ble_eq_true rfl, Nat.le_of_ble_eq_true rfl⟩) 0 rfl rfl rfl hl.1 rfl (lv_room (Nat.le_of_ble_eq_true rfl)) ⟨hcells, hslots⟩ dL_law_671 (fun r_ w_6 H locs hq hP hD hS => ?_)
  obtain ⟨rfl, rfl⟩ := hq
  have hP : va_P D zCl (cT k a6 t6 ++ ((V ++ [ouC k ao g]) ++ F)) _ := hP
  have hD : va_D (fun q => s.heap.size ≤ q) (cT k a6 t6 ++ ((V ++ [ouC k ao g]) ++ F)) := hD
  refine lv_istore (lv' := [(6, .int r6), (5, .int x), (0, .ref b), (1, .ref h), (2, .ref (a6 0)), (3, .ref ao), (4, .int i)]) hx hb dL_law_674 hl (by decide) rfl (fun ls hl => ?_)
  refine lv_aload_n hx hb dL_law_676 rfl (lv_at hl 4 rfl) ?_
  obtain ⟨hth, hge⟩ := hrel _ _ _ hq1
  refine cRV (As := []) (ci := 0) ⟨hx, hb, hml, hown, hts⟩ hOK hz hS (zdropP hP) (mtX6_thrown l D k a6 Z hOK t6 x hth) (kX6_thrown hts q1969 rfl rfl ⟨Nat.le_of_ble_eq_true rfl, Nat.le_of_ble_eq_true rfl⟩) 0 rfl rfl rfl hl.1 rfl (lv_room (Nat.le_of_ble_eq_true rfl)) ⟨(by show cells + mc ≤ 603072; exact hcells), (by show slots + ms ≤ 7190634; exact hslots)⟩ dL_law_677 ?_
  refine lv_iload hx hb dL_law_680 (lv_at hl 1 rfl) ?_
  refine lv_icmp_eq (tgt := 687) hx hb dL_law_682 (by decide) (fun _ => ?_) (fun c1 => absurd rfl c1)
  refine lv_iload hx hb dL_law_687 (lv_at hl 1 rfl) ?_
  refine lv_if_ne (tgt := 704) hx hb dL_law_689 (by decide) (fun _ => ?_) (fun c2 => ?_)
  · refine lv_goto (tgt := 2965) hx hb dL_law_704 (by decide) ?_
    exact kk _ _ _ _ _ hq1 hP hD hS _ (lv_sub hl [2, 3, 4, 5, 6] rfl)
  · refine lv_aload_n hx hb dL_law_692 rfl (lv_at hl 5 rfl) ?_
    refine lv_iconst (v := (0 : Int32)) hx hb dL_law_693 (by decide) ?_
    refine va_lald hx hb hK hP ((cT k a6 t6).length + V.length) 3 (ouIdx _ _ _ _) rfl out_in dL_law_694 ?_
    rw [show g (Int32.toNatClampNeg (0 : Int32)) = r6.toInt64 from hge c2]
    refine lv_iload hx hb dL_law_695 (lv_at hl 0 rfl) ?_
    refine lv_i2l (v := r6.toInt64) hx hb dL_law_697 rfl ?_
    refine lv_lcmp_same hx hb dL_law_698 ?_
    refine lv_if_eq (tgt := 704) hx hb dL_law_699 (by decide) (fun _ => ?_) (fun c3 => absurd rfl c3)
    refine lv_goto (tgt := 2965) hx hb dL_law_704 (by decide) ?_
    exact kk _ _ _ _ _ hq1 hP hD hS _ (lv_sub hl [2, 3, 4, 5, 6] rfl)
set_option maxRecDepth 100000 in
theorem cs_saturday {p : Program} {l : Launch} {e : Env} {s : State} {m : MethodId} {below : List Frame} {meth : Method} {c : Code} {Q : State → Prop} {D : va_G} {k : Nat → ClassId} {Z : zZ} {b L : Nat} {xs : Nat → Int32} (hC : lwC p s m c D k Z b L xs) {a6 : Nat → Nat} {h ao : Nat} {i : Int32} (wo F : va_W) {t t6 : Tw} {p1 : Int32} (hp1 : sAt xs L i 1 p1) {p2 : Int32} (hp2 : sAt xs L i 2 p2) {rm : Room} {mc ms : Nat} {P1 : Int32 → (Nat → Int64) → va_W → Prop} {r6 : Bool} (hrc : rm.cells = mc) (hrs : rm.slots = ms) (hfr : rm.frames + 1 ≤ 8192 ∧ 8 + (5 + 11) + rm.locals ≤ 104096) (hM : CtXH l yX0_saturday cX0_saturday 5 (some .int) hhX0_saturday rm Z D zCl wo [.ref h, .int p1, .int p2, .ref ao] (PWo k ao P1) (fun _ _ => False) mc ms) (hM6 : CtW l yX6_saturday cX6_saturday 3 (some .boolean) rX6_saturday Z D zCl (cT k a6 t) [.ref (a6 0), .int p1, .int p2] (fun r' w' => r' = some (.int (bz r6)) ∧ w' = cT k a6 t6) 0 0) (hrel : ∀ x g V, P1 x g V → fX6_thrown t6 = some x ∧ (x = 0 → g0 g = bzL r6)) {H : Heap} {locs : List Loc} {cells slots : Nat} (hP : va_P D zCl (cT k a6 t ++ (wo ++ F)) H) (hD : va_D (fun q => s.heap.size ≤ q) (cT k a6 t ++ (wo ++ F))) (hS : va_S (fun q => s.heap.size ≤ q) s.heap H locs) (hcells : cells + mc ≤ 603072) (hslots : slots + ms ≤ 7190634) (kk : ∀ x g V H locs, P1 x g V → va_P D zCl (cT k a6 t6 ++ ((V ++ [ouC k ao g]) ++ F)) H → va_D (fun q => s.heap.size ≤ q) (cT k a6 t6 ++ ((V ++ [ouC k ao g]) ++ F)) → va_S (fun q => s.heap.size ≤ q) s.heap H locs → ∀ ls, lv_has ls 7 [(0, .ref b), (1, .ref h), (2, .ref (a6 0)), (3, .ref ao), (4, .int i)] → W p l e room_1 s m #[Value.ref b] below meth c H locs (cells + mc) (slots + ms) Q (F0 m 2965 ls [])) {ls : Array Slot} (hl : lv_has ls 7 [(0, .ref b), (1, .ref h), (2, .ref (a6 0)), (3, .ref ao), (4, .int i)]) : W p l e room_1 s m #[Value.ref b] below meth c H locs cells slots Q (F0 m 707 ls []) := by
  obtain ⟨hx, hb, hml, hown, hts, hX, hbl, hOK, hz⟩ := hC
  have hK := hOK.1 _ _ _ hz
  have hbA : ¬ (fun q => s.heap.size ≤ q) b := Nat.not_le.mpr hbl
  have hA : ∀ q : Nat, s.heap.size ≤ q → (fun q => s.heap.size ≤ q) q := fun _ h => h
  refine lv_aload_n hx hb dL_law_707 rfl (lv_at hl 1 rfl) ?_
  refine lw_arg (j := (1 : Int32)) hx hb hX hbl hbA hS hp1 (lv_at hl 0 rfl) (lv_at hl 4 rfl) dL_law_708 dL_law_709 dL_law_711 (by decide) dL_law_712 dL_law_713 ?_
  refine lw_arg (j := (2 : Int32)) hx hb hX hbl hbA hS hp2 (lv_at hl 0 rfl) (lv_at hl 4 rfl) dL_law_714 dL_law_715 dL_law_717 (by decide) dL_law_718 dL_law_719 ?_
  refine lv_aload_n hx hb dL_law_720 rfl (lv_at hl 3 rfl) ?_
  refine cXSH (cT k a6 t) wo F (As := [.ref h, .int p1, .int p2, .ref ao]) ⟨hx, hb, hml, hown, hts⟩ hOK hz hS hA hP hD hM (kX0_saturday hts q1620 hrc hrs ⟨(by show rm.frames + 1 ≤ 8192; omega), (by show 8 + (5 + 11) + rm.locals ≤ 104096; omega)⟩) rfl hl.1 rfl (lv_room (Nat.le_of_ble_eq_true rfl)) ⟨hcells, hslots⟩ dL_law_721 (fun E_ w_ ce_ q9_ H locs hq hP hD hS hce hcv hcl => hq.elim) (fun r_ w_ H locs hq hP hD hS => ?_)
  obtain ⟨x, g, V, hq1, rfl, rfl⟩ := hq
  refine lv_istore (lv' := [(5, .int x), (0, .ref b), (1, .ref h), (2, .ref (a6 0)), (3, .ref ao), (4, .int i)]) hx hb dL_law_724 hl (by decide) rfl (fun ls hl => ?_)
  refine lv_aload_n hx hb dL_law_726 rfl (lv_at hl 3 rfl) ?_
  refine lw_arg (j := (1 : Int32)) hx hb hX hbl hbA hS hp1 (lv_at hl 1 rfl) (lv_at hl 5 rfl) dL_law_727 dL_law_728 dL_law_730 (by decide) dL_law_731 dL_law_732 ?_
  refine lw_arg (j := (2 : Int32)) hx hb hX hbl hbA hS hp2 (lv_at hl 1 rfl) (lv_at hl 5 rfl) dL_law_733 dL_law_734 dL_law_736 (by decide) dL_law_737 dL_law_738 ?_
  refine cWV [] (cT k a6 t) ((V ++ [ouC k ao g]) ++ F) (As := [.int p1, .int p2]) (ci := 0) ⟨hx, hb, hml, hown, hts⟩ hOK hz hS hA hP hD hM6 (kX6_saturday hts q2201 rfl rfl ⟨Nat.le_of_ble_eq_true rfl, Nat.le_of_ble_eq_true rfl⟩) 0 rfl rfl rfl hl.1 rfl (lv_room (Nat.le_of_ble_eq_true rfl)) ⟨hcells, hslots⟩ dL_law_739 (fun r_ w_6 H locs hq hP hD hS => ?_)
  obtain ⟨rfl, rfl⟩ := hq
  have hP : va_P D zCl (cT k a6 t6 ++ ((V ++ [ouC k ao g]) ++ F)) _ := hP
  have hD : va_D (fun q => s.heap.size ≤ q) (cT k a6 t6 ++ ((V ++ [ouC k ao g]) ++ F)) := hD
  refine lv_istore (lv' := [(6, .int (bz r6)), (5, .int x), (0, .ref b), (1, .ref h), (2, .ref (a6 0)), (3, .ref ao), (4, .int i)]) hx hb dL_law_742 hl (by decide) rfl (fun ls hl => ?_)
  refine lv_aload_n hx hb dL_law_744 rfl (lv_at hl 4 rfl) ?_
  obtain ⟨hth, hge⟩ := hrel _ _ _ hq1
  refine cRV (As := []) (ci := 0) ⟨hx, hb, hml, hown, hts⟩ hOK hz hS (zdropP hP) (mtX6_thrown l D k a6 Z hOK t6 x hth) (kX6_thrown hts q1969 rfl rfl ⟨Nat.le_of_ble_eq_true rfl, Nat.le_of_ble_eq_true rfl⟩) 0 rfl rfl rfl hl.1 rfl (lv_room (Nat.le_of_ble_eq_true rfl)) ⟨(by show cells + mc ≤ 603072; exact hcells), (by show slots + ms ≤ 7190634; exact hslots)⟩ dL_law_745 ?_
  refine lv_iload hx hb dL_law_748 (lv_at hl 1 rfl) ?_
  refine lv_icmp_eq (tgt := 755) hx hb dL_law_750 (by decide) (fun _ => ?_) (fun c1 => absurd rfl c1)
  refine lv_iload hx hb dL_law_755 (lv_at hl 1 rfl) ?_
  refine lv_if_ne (tgt := 779) hx hb dL_law_757 (by decide) (fun _ => ?_) (fun c2 => ?_)
  · refine lv_goto (tgt := 2965) hx hb dL_law_779 (by decide) ?_
    exact kk _ _ _ _ _ hq1 hP hD hS _ (lv_sub hl [2, 3, 4, 5, 6] rfl)
  · refine lv_aload_n hx hb dL_law_760 rfl (lv_at hl 5 rfl) ?_
    refine lv_iconst (v := (0 : Int32)) hx hb dL_law_761 (by decide) ?_
    refine va_lald hx hb hK hP ((cT k a6 t6).length + V.length) 3 (ouIdx _ _ _ _) rfl out_in dL_law_762 ?_
    rw [show g (Int32.toNatClampNeg (0 : Int32)) = bzL r6 from hge c2]
    refine lv_iload hx hb dL_law_763 (lv_at hl 0 rfl) ?_
    cases r6 with
    | true =>
      refine lv_if_eq (tgt := 772) hx hb dL_law_765 (by decide) (fun c4 => absurd c4 (by decide)) (fun _ => ?_)
      refine lv_lconst (v := (1 : Int64)) hx hb dL_law_768 (by decide) ?_
      refine lv_goto (tgt := 773) hx hb dL_law_769 (by decide) ?_
      rw [show bzL true = (1 : Int64) from rfl]
      refine lv_lcmp_same hx hb dL_law_773 ?_
      refine lv_if_eq (tgt := 779) hx hb dL_law_774 (by decide) (fun _ => ?_) (fun c3 => absurd rfl c3)
      refine lv_goto (tgt := 2965) hx hb dL_law_779 (by decide) ?_
      exact kk _ _ _ _ _ hq1 hP hD hS _ (lv_sub hl [2, 3, 4, 5, 6] rfl)
    | false =>
      refine lv_if_eq (tgt := 772) hx hb dL_law_765 (by decide) (fun _ => ?_) (fun c4 => absurd rfl c4)
      refine lv_lconst (v := (0 : Int64)) hx hb dL_law_772 (by decide) ?_
      rw [show bzL false = (0 : Int64) from rfl]
      refine lv_lcmp_same hx hb dL_law_773 ?_
      refine lv_if_eq (tgt := 779) hx hb dL_law_774 (by decide) (fun _ => ?_) (fun c3 => absurd rfl c3)
      refine lv_goto (tgt := 2965) hx hb dL_law_779 (by decide) ?_
      exact kk _ _ _ _ _ hq1 hP hD hS _ (lv_sub hl [2, 3, 4, 5, 6] rfl)
set_option maxRecDepth 100000 in
theorem cs_go {p : Program} {l : Launch} {e : Env} {s : State} {m : MethodId} {below : List Frame} {meth : Method} {c : Code} {Q : State → Prop} {D : va_G} {k : Nat → ClassId} {Z : zZ} {b L : Nat} {xs : Nat → Int32} (hC : lwC p s m c D k Z b L xs) {a6 : Nat → Nat} {h ao : Nat} {i : Int32} (wo F : va_W) {t t6 : Tw} {p1 : Int32} (hp1 : sAt xs L i 1 p1) {p2 : Int32} (hp2 : sAt xs L i 2 p2) {rm : Room} {mc ms : Nat} {P1 : Int32 → (Nat → Int64) → va_W → Prop} {r6 : Int32} (hrc : rm.cells = mc) (hrs : rm.slots = ms) (hfr : rm.frames + 1 ≤ 8192 ∧ 8 + (5 + 11) + rm.locals ≤ 104096) (hM : CtXH l yX0_go cX0_go 5 (some .int) hhX0_go rm Z D zCl wo [.ref h, .int p1, .int p2, .ref ao] (PWo k ao P1) (fun _ _ => False) mc ms) (hM6 : CtW l yX6_go cX6_go 3 (some .int) rX6_go Z D zCl (cT k a6 t) [.ref (a6 0), .int p1, .int p2] (fun r' w' => r' = some (.int r6) ∧ w' = cT k a6 t6) 0 0) (hrel : ∀ x g V, P1 x g V → fX6_thrown t6 = some x ∧ (x = 0 → g0 g = r6.toInt64)) {H : Heap} {locs : List Loc} {cells slots : Nat} (hP : va_P D zCl (cT k a6 t ++ (wo ++ F)) H) (hD : va_D (fun q => s.heap.size ≤ q) (cT k a6 t ++ (wo ++ F))) (hS : va_S (fun q => s.heap.size ≤ q) s.heap H locs) (hcells : cells + mc ≤ 603072) (hslots : slots + ms ≤ 7190634) (kk : ∀ x g V H locs, P1 x g V → va_P D zCl (cT k a6 t6 ++ ((V ++ [ouC k ao g]) ++ F)) H → va_D (fun q => s.heap.size ≤ q) (cT k a6 t6 ++ ((V ++ [ouC k ao g]) ++ F)) → va_S (fun q => s.heap.size ≤ q) s.heap H locs → ∀ ls, lv_has ls 7 [(0, .ref b), (1, .ref h), (2, .ref (a6 0)), (3, .ref ao), (4, .int i)] → W p l e room_1 s m #[Value.ref b] below meth c H locs (cells + mc) (slots + ms) Q (F0 m 2965 ls [])) {ls : Array Slot} (hl : lv_has ls 7 [(0, .ref b), (1, .ref h), (2, .ref (a6 0)), (3, .ref ao), (4, .int i)]) : W p l e room_1 s m #[Value.ref b] below meth c H locs cells slots Q (F0 m 782 ls []) := by
  obtain ⟨hx, hb, hml, hown, hts, hX, hbl, hOK, hz⟩ := hC
  have hK := hOK.1 _ _ _ hz
  have hbA : ¬ (fun q => s.heap.size ≤ q) b := Nat.not_le.mpr hbl
  have hA : ∀ q : Nat, s.heap.size ≤ q → (fun q => s.heap.size ≤ q) q := fun _ h => h
  refine lv_aload_n hx hb dL_law_782 rfl (lv_at hl 1 rfl) ?_
  refine lw_arg (j := (1 : Int32)) hx hb hX hbl hbA hS hp1 (lv_at hl 0 rfl) (lv_at hl 4 rfl) dL_law_783 dL_law_784 dL_law_786 (by decide) dL_law_787 dL_law_788 ?_
  refine lw_arg (j := (2 : Int32)) hx hb hX hbl hbA hS hp2 (lv_at hl 0 rfl) (lv_at hl 4 rfl) dL_law_789 dL_law_790 dL_law_792 (by decide) dL_law_793 dL_law_794 ?_
  refine lv_aload_n hx hb dL_law_795 rfl (lv_at hl 3 rfl) ?_
  refine cXSH (cT k a6 t) wo F (As := [.ref h, .int p1, .int p2, .ref ao]) ⟨hx, hb, hml, hown, hts⟩ hOK hz hS hA hP hD hM (kX0_go hts q1630 hrc hrs ⟨(by show rm.frames + 1 ≤ 8192; omega), (by show 8 + (5 + 11) + rm.locals ≤ 104096; omega)⟩) rfl hl.1 rfl (lv_room (Nat.le_of_ble_eq_true rfl)) ⟨hcells, hslots⟩ dL_law_796 (fun E_ w_ ce_ q9_ H locs hq hP hD hS hce hcv hcl => hq.elim) (fun r_ w_ H locs hq hP hD hS => ?_)
  obtain ⟨x, g, V, hq1, rfl, rfl⟩ := hq
  refine lv_istore (lv' := [(5, .int x), (0, .ref b), (1, .ref h), (2, .ref (a6 0)), (3, .ref ao), (4, .int i)]) hx hb dL_law_799 hl (by decide) rfl (fun ls hl => ?_)
  refine lv_aload_n hx hb dL_law_801 rfl (lv_at hl 3 rfl) ?_
  refine lw_arg (j := (1 : Int32)) hx hb hX hbl hbA hS hp1 (lv_at hl 1 rfl) (lv_at hl 5 rfl) dL_law_802 dL_law_803 dL_law_805 (by decide) dL_law_806 dL_law_807 ?_
  refine lw_arg (j := (2 : Int32)) hx hb hX hbl hbA hS hp2 (lv_at hl 1 rfl) (lv_at hl 5 rfl) dL_law_808 dL_law_809 dL_law_811 (by decide) dL_law_812 dL_law_813 ?_
  refine cWV [] (cT k a6 t) ((V ++ [ouC k ao g]) ++ F) (As := [.int p1, .int p2]) (ci := 0) ⟨hx, hb, hml, hown, hts⟩ hOK hz hS hA hP hD hM6 (kX6_go hts q2205 rfl rfl ⟨Nat.le_of_ble_eq_true rfl, Nat.le_of_ble_eq_true rfl⟩) 0 rfl rfl rfl hl.1 rfl (lv_room (Nat.le_of_ble_eq_true rfl)) ⟨hcells, hslots⟩ dL_law_814 (fun r_ w_6 H locs hq hP hD hS => ?_)
  obtain ⟨rfl, rfl⟩ := hq
  have hP : va_P D zCl (cT k a6 t6 ++ ((V ++ [ouC k ao g]) ++ F)) _ := hP
  have hD : va_D (fun q => s.heap.size ≤ q) (cT k a6 t6 ++ ((V ++ [ouC k ao g]) ++ F)) := hD
  refine lv_istore (lv' := [(6, .int r6), (5, .int x), (0, .ref b), (1, .ref h), (2, .ref (a6 0)), (3, .ref ao), (4, .int i)]) hx hb dL_law_817 hl (by decide) rfl (fun ls hl => ?_)
  refine lv_aload_n hx hb dL_law_819 rfl (lv_at hl 4 rfl) ?_
  obtain ⟨hth, hge⟩ := hrel _ _ _ hq1
  refine cRV (As := []) (ci := 0) ⟨hx, hb, hml, hown, hts⟩ hOK hz hS (zdropP hP) (mtX6_thrown l D k a6 Z hOK t6 x hth) (kX6_thrown hts q1969 rfl rfl ⟨Nat.le_of_ble_eq_true rfl, Nat.le_of_ble_eq_true rfl⟩) 0 rfl rfl rfl hl.1 rfl (lv_room (Nat.le_of_ble_eq_true rfl)) ⟨(by show cells + mc ≤ 603072; exact hcells), (by show slots + ms ≤ 7190634; exact hslots)⟩ dL_law_820 ?_
  refine lv_iload hx hb dL_law_823 (lv_at hl 1 rfl) ?_
  refine lv_icmp_eq (tgt := 830) hx hb dL_law_825 (by decide) (fun _ => ?_) (fun c1 => absurd rfl c1)
  refine lv_iload hx hb dL_law_830 (lv_at hl 1 rfl) ?_
  refine lv_if_ne (tgt := 847) hx hb dL_law_832 (by decide) (fun _ => ?_) (fun c2 => ?_)
  · refine lv_goto (tgt := 2965) hx hb dL_law_847 (by decide) ?_
    exact kk _ _ _ _ _ hq1 hP hD hS _ (lv_sub hl [2, 3, 4, 5, 6] rfl)
  · refine lv_aload_n hx hb dL_law_835 rfl (lv_at hl 5 rfl) ?_
    refine lv_iconst (v := (0 : Int32)) hx hb dL_law_836 (by decide) ?_
    refine va_lald hx hb hK hP ((cT k a6 t6).length + V.length) 3 (ouIdx _ _ _ _) rfl out_in dL_law_837 ?_
    rw [show g (Int32.toNatClampNeg (0 : Int32)) = r6.toInt64 from hge c2]
    refine lv_iload hx hb dL_law_838 (lv_at hl 0 rfl) ?_
    refine lv_i2l (v := r6.toInt64) hx hb dL_law_840 rfl ?_
    refine lv_lcmp_same hx hb dL_law_841 ?_
    refine lv_if_eq (tgt := 847) hx hb dL_law_842 (by decide) (fun _ => ?_) (fun c3 => absurd rfl c3)
    refine lv_goto (tgt := 2965) hx hb dL_law_847 (by decide) ?_
    exact kk _ _ _ _ _ hq1 hP hD hS _ (lv_sub hl [2, 3, 4, 5, 6] rfl)
set_option maxRecDepth 100000 in
theorem cs_come {p : Program} {l : Launch} {e : Env} {s : State} {m : MethodId} {below : List Frame} {meth : Method} {c : Code} {Q : State → Prop} {D : va_G} {k : Nat → ClassId} {Z : zZ} {b L : Nat} {xs : Nat → Int32} (hC : lwC p s m c D k Z b L xs) {a6 : Nat → Nat} {h ao : Nat} {i : Int32} (wo F : va_W) {t t6 : Tw} {p1 : Int32} (hp1 : sAt xs L i 1 p1) {p2 : Int32} (hp2 : sAt xs L i 2 p2) {rm : Room} {mc ms : Nat} {P1 : Int32 → (Nat → Int64) → va_W → Prop} {r6 : Bool} (hrc : rm.cells = mc) (hrs : rm.slots = ms) (hfr : rm.frames + 1 ≤ 8192 ∧ 8 + (5 + 11) + rm.locals ≤ 104096) (hM : CtXH l yX0_come cX0_come 5 (some .int) hhX0_come rm Z D zCl wo [.ref h, .int p1, .int (bz (zn p2)), .ref ao] (PWo k ao P1) (fun _ _ => False) mc ms) (hM6 : CtW l yX6_come cX6_come 3 (some .boolean) rX6_come Z D zCl (cT k a6 t) [.ref (a6 0), .int p1, .int (bz (zn p2))] (fun r' w' => r' = some (.int (bz r6)) ∧ w' = cT k a6 t6) 0 0) (hrel : ∀ x g V, P1 x g V → fX6_thrown t6 = some x ∧ (x = 0 → g0 g = bzL r6)) {H : Heap} {locs : List Loc} {cells slots : Nat} (hP : va_P D zCl (cT k a6 t ++ (wo ++ F)) H) (hD : va_D (fun q => s.heap.size ≤ q) (cT k a6 t ++ (wo ++ F))) (hS : va_S (fun q => s.heap.size ≤ q) s.heap H locs) (hcells : cells + mc ≤ 603072) (hslots : slots + ms ≤ 7190634) (kk : ∀ x g V H locs, P1 x g V → va_P D zCl (cT k a6 t6 ++ ((V ++ [ouC k ao g]) ++ F)) H → va_D (fun q => s.heap.size ≤ q) (cT k a6 t6 ++ ((V ++ [ouC k ao g]) ++ F)) → va_S (fun q => s.heap.size ≤ q) s.heap H locs → ∀ ls, lv_has ls 7 [(0, .ref b), (1, .ref h), (2, .ref (a6 0)), (3, .ref ao), (4, .int i)] → W p l e room_1 s m #[Value.ref b] below meth c H locs (cells + mc) (slots + ms) Q (F0 m 2965 ls [])) {ls : Array Slot} (hl : lv_has ls 7 [(0, .ref b), (1, .ref h), (2, .ref (a6 0)), (3, .ref ao), (4, .int i)]) : W p l e room_1 s m #[Value.ref b] below meth c H locs cells slots Q (F0 m 850 ls []) := by
  obtain ⟨hx, hb, hml, hown, hts, hX, hbl, hOK, hz⟩ := hC
  have hK := hOK.1 _ _ _ hz
  have hbA : ¬ (fun q => s.heap.size ≤ q) b := Nat.not_le.mpr hbl
  have hA : ∀ q : Nat, s.heap.size ≤ q → (fun q => s.heap.size ≤ q) q := fun _ h => h
  refine lv_aload_n hx hb dL_law_850 rfl (lv_at hl 1 rfl) ?_
  refine lw_arg (j := (1 : Int32)) hx hb hX hbl hbA hS hp1 (lv_at hl 0 rfl) (lv_at hl 4 rfl) dL_law_851 dL_law_852 dL_law_854 (by decide) dL_law_855 dL_law_856 ?_
  refine lw_arg (j := (2 : Int32)) hx hb hX hbl hbA hS hp2 (lv_at hl 0 rfl) (lv_at hl 4 rfl) dL_law_857 dL_law_858 dL_law_860 (by decide) dL_law_861 dL_law_862 ?_
  refine lw_argz hx hb dL_law_863 dL_law_866 dL_law_867 dL_law_870 ?_
  refine lv_aload_n hx hb dL_law_871 rfl (lv_at hl 3 rfl) ?_
  refine cXSH (cT k a6 t) wo F (As := [.ref h, .int p1, .int (bz (zn p2)), .ref ao]) ⟨hx, hb, hml, hown, hts⟩ hOK hz hS hA hP hD hM (kX0_come hts q1641 hrc hrs ⟨(by show rm.frames + 1 ≤ 8192; omega), (by show 8 + (5 + 11) + rm.locals ≤ 104096; omega)⟩) rfl hl.1 rfl (lv_room (Nat.le_of_ble_eq_true rfl)) ⟨hcells, hslots⟩ dL_law_872 (fun E_ w_ ce_ q9_ H locs hq hP hD hS hce hcv hcl => hq.elim) (fun r_ w_ H locs hq hP hD hS => ?_)
  obtain ⟨x, g, V, hq1, rfl, rfl⟩ := hq
  refine lv_istore (lv' := [(5, .int x), (0, .ref b), (1, .ref h), (2, .ref (a6 0)), (3, .ref ao), (4, .int i)]) hx hb dL_law_875 hl (by decide) rfl (fun ls hl => ?_)
  refine lv_aload_n hx hb dL_law_877 rfl (lv_at hl 3 rfl) ?_
  refine lw_arg (j := (1 : Int32)) hx hb hX hbl hbA hS hp1 (lv_at hl 1 rfl) (lv_at hl 5 rfl) dL_law_878 dL_law_879 dL_law_881 (by decide) dL_law_882 dL_law_883 ?_
  refine lw_arg (j := (2 : Int32)) hx hb hX hbl hbA hS hp2 (lv_at hl 1 rfl) (lv_at hl 5 rfl) dL_law_884 dL_law_885 dL_law_887 (by decide) dL_law_888 dL_law_889 ?_
  refine lw_argz hx hb dL_law_890 dL_law_893 dL_law_894 dL_law_897 ?_
  refine cWV [] (cT k a6 t) ((V ++ [ouC k ao g]) ++ F) (As := [.int p1, .int (bz (zn p2))]) (ci := 0) ⟨hx, hb, hml, hown, hts⟩ hOK hz hS hA hP hD hM6 (kX6_come hts q2217 rfl rfl ⟨Nat.le_of_ble_eq_true rfl, Nat.le_of_ble_eq_true rfl⟩) 0 rfl rfl rfl hl.1 rfl (lv_room (Nat.le_of_ble_eq_true rfl)) ⟨hcells, hslots⟩ dL_law_898 (fun r_ w_6 H locs hq hP hD hS => ?_)
  obtain ⟨rfl, rfl⟩ := hq
  have hP : va_P D zCl (cT k a6 t6 ++ ((V ++ [ouC k ao g]) ++ F)) _ := hP
  have hD : va_D (fun q => s.heap.size ≤ q) (cT k a6 t6 ++ ((V ++ [ouC k ao g]) ++ F)) := hD
  refine lv_istore (lv' := [(6, .int (bz r6)), (5, .int x), (0, .ref b), (1, .ref h), (2, .ref (a6 0)), (3, .ref ao), (4, .int i)]) hx hb dL_law_901 hl (by decide) rfl (fun ls hl => ?_)
  refine lv_aload_n hx hb dL_law_903 rfl (lv_at hl 4 rfl) ?_
  obtain ⟨hth, hge⟩ := hrel _ _ _ hq1
  refine cRV (As := []) (ci := 0) ⟨hx, hb, hml, hown, hts⟩ hOK hz hS (zdropP hP) (mtX6_thrown l D k a6 Z hOK t6 x hth) (kX6_thrown hts q1969 rfl rfl ⟨Nat.le_of_ble_eq_true rfl, Nat.le_of_ble_eq_true rfl⟩) 0 rfl rfl rfl hl.1 rfl (lv_room (Nat.le_of_ble_eq_true rfl)) ⟨(by show cells + mc ≤ 603072; exact hcells), (by show slots + ms ≤ 7190634; exact hslots)⟩ dL_law_904 ?_
  refine lv_iload hx hb dL_law_907 (lv_at hl 1 rfl) ?_
  refine lv_icmp_eq (tgt := 914) hx hb dL_law_909 (by decide) (fun _ => ?_) (fun c1 => absurd rfl c1)
  refine lv_iload hx hb dL_law_914 (lv_at hl 1 rfl) ?_
  refine lv_if_ne (tgt := 938) hx hb dL_law_916 (by decide) (fun _ => ?_) (fun c2 => ?_)
  · refine lv_goto (tgt := 2965) hx hb dL_law_938 (by decide) ?_
    exact kk _ _ _ _ _ hq1 hP hD hS _ (lv_sub hl [2, 3, 4, 5, 6] rfl)
  · refine lv_aload_n hx hb dL_law_919 rfl (lv_at hl 5 rfl) ?_
    refine lv_iconst (v := (0 : Int32)) hx hb dL_law_920 (by decide) ?_
    refine va_lald hx hb hK hP ((cT k a6 t6).length + V.length) 3 (ouIdx _ _ _ _) rfl out_in dL_law_921 ?_
    rw [show g (Int32.toNatClampNeg (0 : Int32)) = bzL r6 from hge c2]
    refine lv_iload hx hb dL_law_922 (lv_at hl 0 rfl) ?_
    cases r6 with
    | true =>
      refine lv_if_eq (tgt := 931) hx hb dL_law_924 (by decide) (fun c4 => absurd c4 (by decide)) (fun _ => ?_)
      refine lv_lconst (v := (1 : Int64)) hx hb dL_law_927 (by decide) ?_
      refine lv_goto (tgt := 932) hx hb dL_law_928 (by decide) ?_
      rw [show bzL true = (1 : Int64) from rfl]
      refine lv_lcmp_same hx hb dL_law_932 ?_
      refine lv_if_eq (tgt := 938) hx hb dL_law_933 (by decide) (fun _ => ?_) (fun c3 => absurd rfl c3)
      refine lv_goto (tgt := 2965) hx hb dL_law_938 (by decide) ?_
      exact kk _ _ _ _ _ hq1 hP hD hS _ (lv_sub hl [2, 3, 4, 5, 6] rfl)
    | false =>
      refine lv_if_eq (tgt := 931) hx hb dL_law_924 (by decide) (fun _ => ?_) (fun c4 => absurd rfl c4)
      refine lv_lconst (v := (0 : Int64)) hx hb dL_law_931 (by decide) ?_
      rw [show bzL false = (0 : Int64) from rfl]
      refine lv_lcmp_same hx hb dL_law_932 ?_
      refine lv_if_eq (tgt := 938) hx hb dL_law_933 (by decide) (fun _ => ?_) (fun c3 => absurd rfl c3)
      refine lv_goto (tgt := 2965) hx hb dL_law_938 (by decide) ?_
      exact kk _ _ _ _ _ hq1 hP hD hS _ (lv_sub hl [2, 3, 4, 5, 6] rfl)
set_option maxRecDepth 100000 in
theorem cs_key {p : Program} {l : Launch} {e : Env} {s : State} {m : MethodId} {below : List Frame} {meth : Method} {c : Code} {Q : State → Prop} {D : va_G} {k : Nat → ClassId} {Z : zZ} {b L : Nat} {xs : Nat → Int32} (hC : lwC p s m c D k Z b L xs) {a6 : Nat → Nat} {h ao : Nat} {i : Int32} (wo F : va_W) {t t6 : Tw} {p1 : Int32} (hp1 : sAt xs L i 1 p1) {p2 : Int32} (hp2 : sAt xs L i 2 p2) {rm : Room} {mc ms : Nat} {P1 : Int32 → (Nat → Int64) → va_W → Prop} {r6 : Bool} (hrc : rm.cells = mc) (hrs : rm.slots = ms) (hfr : rm.frames + 1 ≤ 8192 ∧ 8 + (5 + 11) + rm.locals ≤ 104096) (hM : CtXH l yX0_key cX0_key 5 (some .int) hhX0_key rm Z D zCl wo [.ref h, .int p1, .int (bz (zn p2)), .ref ao] (PWo k ao P1) (fun _ _ => False) mc ms) (hM6 : CtW l yX6_key cX6_key 3 (some .boolean) rX6_key Z D zCl (cT k a6 t) [.ref (a6 0), .int p1, .int (bz (zn p2))] (fun r' w' => r' = some (.int (bz r6)) ∧ w' = cT k a6 t6) 0 0) (hrel : ∀ x g V, P1 x g V → fX6_thrown t6 = some x ∧ (x = 0 → g0 g = bzL r6)) {H : Heap} {locs : List Loc} {cells slots : Nat} (hP : va_P D zCl (cT k a6 t ++ (wo ++ F)) H) (hD : va_D (fun q => s.heap.size ≤ q) (cT k a6 t ++ (wo ++ F))) (hS : va_S (fun q => s.heap.size ≤ q) s.heap H locs) (hcells : cells + mc ≤ 603072) (hslots : slots + ms ≤ 7190634) (kk : ∀ x g V H locs, P1 x g V → va_P D zCl (cT k a6 t6 ++ ((V ++ [ouC k ao g]) ++ F)) H → va_D (fun q => s.heap.size ≤ q) (cT k a6 t6 ++ ((V ++ [ouC k ao g]) ++ F)) → va_S (fun q => s.heap.size ≤ q) s.heap H locs → ∀ ls, lv_has ls 7 [(0, .ref b), (1, .ref h), (2, .ref (a6 0)), (3, .ref ao), (4, .int i)] → W p l e room_1 s m #[Value.ref b] below meth c H locs (cells + mc) (slots + ms) Q (F0 m 2965 ls [])) {ls : Array Slot} (hl : lv_has ls 7 [(0, .ref b), (1, .ref h), (2, .ref (a6 0)), (3, .ref ao), (4, .int i)]) : W p l e room_1 s m #[Value.ref b] below meth c H locs cells slots Q (F0 m 941 ls []) := by
  obtain ⟨hx, hb, hml, hown, hts, hX, hbl, hOK, hz⟩ := hC
  have hK := hOK.1 _ _ _ hz
  have hbA : ¬ (fun q => s.heap.size ≤ q) b := Nat.not_le.mpr hbl
  have hA : ∀ q : Nat, s.heap.size ≤ q → (fun q => s.heap.size ≤ q) q := fun _ h => h
  refine lv_aload_n hx hb dL_law_941 rfl (lv_at hl 1 rfl) ?_
  refine lw_arg (j := (1 : Int32)) hx hb hX hbl hbA hS hp1 (lv_at hl 0 rfl) (lv_at hl 4 rfl) dL_law_942 dL_law_943 dL_law_945 (by decide) dL_law_946 dL_law_947 ?_
  refine lw_arg (j := (2 : Int32)) hx hb hX hbl hbA hS hp2 (lv_at hl 0 rfl) (lv_at hl 4 rfl) dL_law_948 dL_law_949 dL_law_951 (by decide) dL_law_952 dL_law_953 ?_
  refine lw_argz hx hb dL_law_954 dL_law_957 dL_law_958 dL_law_961 ?_
  refine lv_aload_n hx hb dL_law_962 rfl (lv_at hl 3 rfl) ?_
  refine cXSH (cT k a6 t) wo F (As := [.ref h, .int p1, .int (bz (zn p2)), .ref ao]) ⟨hx, hb, hml, hown, hts⟩ hOK hz hS hA hP hD hM (kX0_key hts q1648 hrc hrs ⟨(by show rm.frames + 1 ≤ 8192; omega), (by show 8 + (5 + 11) + rm.locals ≤ 104096; omega)⟩) rfl hl.1 rfl (lv_room (Nat.le_of_ble_eq_true rfl)) ⟨hcells, hslots⟩ dL_law_963 (fun E_ w_ ce_ q9_ H locs hq hP hD hS hce hcv hcl => hq.elim) (fun r_ w_ H locs hq hP hD hS => ?_)
  obtain ⟨x, g, V, hq1, rfl, rfl⟩ := hq
  refine lv_istore (lv' := [(5, .int x), (0, .ref b), (1, .ref h), (2, .ref (a6 0)), (3, .ref ao), (4, .int i)]) hx hb dL_law_966 hl (by decide) rfl (fun ls hl => ?_)
  refine lv_aload_n hx hb dL_law_968 rfl (lv_at hl 3 rfl) ?_
  refine lw_arg (j := (1 : Int32)) hx hb hX hbl hbA hS hp1 (lv_at hl 1 rfl) (lv_at hl 5 rfl) dL_law_969 dL_law_970 dL_law_972 (by decide) dL_law_973 dL_law_974 ?_
  refine lw_arg (j := (2 : Int32)) hx hb hX hbl hbA hS hp2 (lv_at hl 1 rfl) (lv_at hl 5 rfl) dL_law_975 dL_law_976 dL_law_978 (by decide) dL_law_979 dL_law_980 ?_
  refine lw_argz hx hb dL_law_981 dL_law_984 dL_law_985 dL_law_988 ?_
  refine cWV [] (cT k a6 t) ((V ++ [ouC k ao g]) ++ F) (As := [.int p1, .int (bz (zn p2))]) (ci := 0) ⟨hx, hb, hml, hown, hts⟩ hOK hz hS hA hP hD hM6 (kX6_key hts q2221 rfl rfl ⟨Nat.le_of_ble_eq_true rfl, Nat.le_of_ble_eq_true rfl⟩) 0 rfl rfl rfl hl.1 rfl (lv_room (Nat.le_of_ble_eq_true rfl)) ⟨hcells, hslots⟩ dL_law_989 (fun r_ w_6 H locs hq hP hD hS => ?_)
  obtain ⟨rfl, rfl⟩ := hq
  have hP : va_P D zCl (cT k a6 t6 ++ ((V ++ [ouC k ao g]) ++ F)) _ := hP
  have hD : va_D (fun q => s.heap.size ≤ q) (cT k a6 t6 ++ ((V ++ [ouC k ao g]) ++ F)) := hD
  refine lv_istore (lv' := [(6, .int (bz r6)), (5, .int x), (0, .ref b), (1, .ref h), (2, .ref (a6 0)), (3, .ref ao), (4, .int i)]) hx hb dL_law_992 hl (by decide) rfl (fun ls hl => ?_)
  refine lv_aload_n hx hb dL_law_994 rfl (lv_at hl 4 rfl) ?_
  obtain ⟨hth, hge⟩ := hrel _ _ _ hq1
  refine cRV (As := []) (ci := 0) ⟨hx, hb, hml, hown, hts⟩ hOK hz hS (zdropP hP) (mtX6_thrown l D k a6 Z hOK t6 x hth) (kX6_thrown hts q1969 rfl rfl ⟨Nat.le_of_ble_eq_true rfl, Nat.le_of_ble_eq_true rfl⟩) 0 rfl rfl rfl hl.1 rfl (lv_room (Nat.le_of_ble_eq_true rfl)) ⟨(by show cells + mc ≤ 603072; exact hcells), (by show slots + ms ≤ 7190634; exact hslots)⟩ dL_law_995 ?_
  refine lv_iload hx hb dL_law_998 (lv_at hl 1 rfl) ?_
  refine lv_icmp_eq (tgt := 1005) hx hb dL_law_1000 (by decide) (fun _ => ?_) (fun c1 => absurd rfl c1)
  refine lv_iload hx hb dL_law_1005 (lv_at hl 1 rfl) ?_
  refine lv_if_ne (tgt := 1029) hx hb dL_law_1007 (by decide) (fun _ => ?_) (fun c2 => ?_)
  · refine lv_goto (tgt := 2965) hx hb dL_law_1029 (by decide) ?_
    exact kk _ _ _ _ _ hq1 hP hD hS _ (lv_sub hl [2, 3, 4, 5, 6] rfl)
  · refine lv_aload_n hx hb dL_law_1010 rfl (lv_at hl 5 rfl) ?_
    refine lv_iconst (v := (0 : Int32)) hx hb dL_law_1011 (by decide) ?_
    refine va_lald hx hb hK hP ((cT k a6 t6).length + V.length) 3 (ouIdx _ _ _ _) rfl out_in dL_law_1012 ?_
    rw [show g (Int32.toNatClampNeg (0 : Int32)) = bzL r6 from hge c2]
    refine lv_iload hx hb dL_law_1013 (lv_at hl 0 rfl) ?_
    cases r6 with
    | true =>
      refine lv_if_eq (tgt := 1022) hx hb dL_law_1015 (by decide) (fun c4 => absurd c4 (by decide)) (fun _ => ?_)
      refine lv_lconst (v := (1 : Int64)) hx hb dL_law_1018 (by decide) ?_
      refine lv_goto (tgt := 1023) hx hb dL_law_1019 (by decide) ?_
      rw [show bzL true = (1 : Int64) from rfl]
      refine lv_lcmp_same hx hb dL_law_1023 ?_
      refine lv_if_eq (tgt := 1029) hx hb dL_law_1024 (by decide) (fun _ => ?_) (fun c3 => absurd rfl c3)
      refine lv_goto (tgt := 2965) hx hb dL_law_1029 (by decide) ?_
      exact kk _ _ _ _ _ hq1 hP hD hS _ (lv_sub hl [2, 3, 4, 5, 6] rfl)
    | false =>
      refine lv_if_eq (tgt := 1022) hx hb dL_law_1015 (by decide) (fun _ => ?_) (fun c4 => absurd rfl c4)
      refine lv_lconst (v := (0 : Int64)) hx hb dL_law_1022 (by decide) ?_
      rw [show bzL false = (0 : Int64) from rfl]
      refine lv_lcmp_same hx hb dL_law_1023 ?_
      refine lv_if_eq (tgt := 1029) hx hb dL_law_1024 (by decide) (fun _ => ?_) (fun c3 => absurd rfl c3)
      refine lv_goto (tgt := 2965) hx hb dL_law_1029 (by decide) ?_
      exact kk _ _ _ _ _ hq1 hP hD hS _ (lv_sub hl [2, 3, 4, 5, 6] rfl)
set_option maxRecDepth 100000 in
theorem cs_hole {p : Program} {l : Launch} {e : Env} {s : State} {m : MethodId} {below : List Frame} {meth : Method} {c : Code} {Q : State → Prop} {D : va_G} {k : Nat → ClassId} {Z : zZ} {b L : Nat} {xs : Nat → Int32} (hC : lwC p s m c D k Z b L xs) {a6 : Nat → Nat} {h ao : Nat} {i : Int32} (wo F : va_W) {t t6 : Tw} {p1 : Int32} (hp1 : sAt xs L i 1 p1) {p2 : Int32} (hp2 : sAt xs L i 2 p2) {p3 : Int32} (hp3 : sAt xs L i 3 p3) {rm : Room} {mc ms : Nat} {P1 : Int32 → (Nat → Int64) → va_W → Prop} {r6 : Bool} (hrc : rm.cells = mc) (hrs : rm.slots = ms) (hfr : rm.frames + 1 ≤ 8192 ∧ 8 + (6 + 11) + rm.locals ≤ 104096) (hM : CtXH l yX0_hole cX0_hole 6 (some .int) hhX0_hole rm Z D zCl wo [.ref h, .int p1, .int p2, .int (bz (zn p3)), .ref ao] (PWo k ao P1) (fun _ _ => False) mc ms) (hM6 : CtW l yX6_hole cX6_hole 6 (some .boolean) rX6_hole Z D zCl (cT k a6 t) [.ref (a6 0), .int p1, .int p2, .int (bz (zn p3))] (fun r' w' => r' = some (.int (bz r6)) ∧ w' = cT k a6 t6) 0 0) (hrel : ∀ x g V, P1 x g V → fX6_thrown t6 = some x ∧ (x = 0 → g0 g = bzL r6)) {H : Heap} {locs : List Loc} {cells slots : Nat} (hP : va_P D zCl (cT k a6 t ++ (wo ++ F)) H) (hD : va_D (fun q => s.heap.size ≤ q) (cT k a6 t ++ (wo ++ F))) (hS : va_S (fun q => s.heap.size ≤ q) s.heap H locs) (hcells : cells + mc ≤ 603072) (hslots : slots + ms ≤ 7190634) (kk : ∀ x g V H locs, P1 x g V → va_P D zCl (cT k a6 t6 ++ ((V ++ [ouC k ao g]) ++ F)) H → va_D (fun q => s.heap.size ≤ q) (cT k a6 t6 ++ ((V ++ [ouC k ao g]) ++ F)) → va_S (fun q => s.heap.size ≤ q) s.heap H locs → ∀ ls, lv_has ls 7 [(0, .ref b), (1, .ref h), (2, .ref (a6 0)), (3, .ref ao), (4, .int i)] → W p l e room_1 s m #[Value.ref b] below meth c H locs (cells + mc) (slots + ms) Q (F0 m 2965 ls [])) {ls : Array Slot} (hl : lv_has ls 7 [(0, .ref b), (1, .ref h), (2, .ref (a6 0)), (3, .ref ao), (4, .int i)]) : W p l e room_1 s m #[Value.ref b] below meth c H locs cells slots Q (F0 m 1032 ls []) := by
  obtain ⟨hx, hb, hml, hown, hts, hX, hbl, hOK, hz⟩ := hC
  have hK := hOK.1 _ _ _ hz
  have hbA : ¬ (fun q => s.heap.size ≤ q) b := Nat.not_le.mpr hbl
  have hA : ∀ q : Nat, s.heap.size ≤ q → (fun q => s.heap.size ≤ q) q := fun _ h => h
  refine lv_aload_n hx hb dL_law_1032 rfl (lv_at hl 1 rfl) ?_
  refine lw_arg (j := (1 : Int32)) hx hb hX hbl hbA hS hp1 (lv_at hl 0 rfl) (lv_at hl 4 rfl) dL_law_1033 dL_law_1034 dL_law_1036 (by decide) dL_law_1037 dL_law_1038 ?_
  refine lw_arg (j := (2 : Int32)) hx hb hX hbl hbA hS hp2 (lv_at hl 0 rfl) (lv_at hl 4 rfl) dL_law_1039 dL_law_1040 dL_law_1042 (by decide) dL_law_1043 dL_law_1044 ?_
  refine lw_arg (j := (3 : Int32)) hx hb hX hbl hbA hS hp3 (lv_at hl 0 rfl) (lv_at hl 4 rfl) dL_law_1045 dL_law_1046 dL_law_1048 (by decide) dL_law_1049 dL_law_1050 ?_
  refine lw_argz hx hb dL_law_1051 dL_law_1054 dL_law_1055 dL_law_1058 ?_
  refine lv_aload_n hx hb dL_law_1059 rfl (lv_at hl 3 rfl) ?_
  refine cXSH (cT k a6 t) wo F (As := [.ref h, .int p1, .int p2, .int (bz (zn p3)), .ref ao]) ⟨hx, hb, hml, hown, hts⟩ hOK hz hS hA hP hD hM (kX0_hole hts q1655 hrc hrs ⟨(by show rm.frames + 1 ≤ 8192; omega), (by show 8 + (6 + 11) + rm.locals ≤ 104096; omega)⟩) rfl hl.1 rfl (lv_room (Nat.le_of_ble_eq_true rfl)) ⟨hcells, hslots⟩ dL_law_1060 (fun E_ w_ ce_ q9_ H locs hq hP hD hS hce hcv hcl => hq.elim) (fun r_ w_ H locs hq hP hD hS => ?_)
  obtain ⟨x, g, V, hq1, rfl, rfl⟩ := hq
  refine lv_istore (lv' := [(5, .int x), (0, .ref b), (1, .ref h), (2, .ref (a6 0)), (3, .ref ao), (4, .int i)]) hx hb dL_law_1063 hl (by decide) rfl (fun ls hl => ?_)
  refine lv_aload_n hx hb dL_law_1065 rfl (lv_at hl 3 rfl) ?_
  refine lw_arg (j := (1 : Int32)) hx hb hX hbl hbA hS hp1 (lv_at hl 1 rfl) (lv_at hl 5 rfl) dL_law_1066 dL_law_1067 dL_law_1069 (by decide) dL_law_1070 dL_law_1071 ?_
  refine lw_arg (j := (2 : Int32)) hx hb hX hbl hbA hS hp2 (lv_at hl 1 rfl) (lv_at hl 5 rfl) dL_law_1072 dL_law_1073 dL_law_1075 (by decide) dL_law_1076 dL_law_1077 ?_
  refine lw_arg (j := (3 : Int32)) hx hb hX hbl hbA hS hp3 (lv_at hl 1 rfl) (lv_at hl 5 rfl) dL_law_1078 dL_law_1079 dL_law_1081 (by decide) dL_law_1082 dL_law_1083 ?_
  refine lw_argz hx hb dL_law_1084 dL_law_1087 dL_law_1088 dL_law_1091 ?_
  refine cWV [] (cT k a6 t) ((V ++ [ouC k ao g]) ++ F) (As := [.int p1, .int p2, .int (bz (zn p3))]) (ci := 0) ⟨hx, hb, hml, hown, hts⟩ hOK hz hS hA hP hD hM6 (kX6_hole hts q2225 rfl rfl ⟨Nat.le_of_ble_eq_true rfl, Nat.le_of_ble_eq_true rfl⟩) 0 rfl rfl rfl hl.1 rfl (lv_room (Nat.le_of_ble_eq_true rfl)) ⟨hcells, hslots⟩ dL_law_1092 (fun r_ w_6 H locs hq hP hD hS => ?_)
  obtain ⟨rfl, rfl⟩ := hq
  have hP : va_P D zCl (cT k a6 t6 ++ ((V ++ [ouC k ao g]) ++ F)) _ := hP
  have hD : va_D (fun q => s.heap.size ≤ q) (cT k a6 t6 ++ ((V ++ [ouC k ao g]) ++ F)) := hD
  refine lv_istore (lv' := [(6, .int (bz r6)), (5, .int x), (0, .ref b), (1, .ref h), (2, .ref (a6 0)), (3, .ref ao), (4, .int i)]) hx hb dL_law_1095 hl (by decide) rfl (fun ls hl => ?_)
  refine lv_aload_n hx hb dL_law_1097 rfl (lv_at hl 4 rfl) ?_
  obtain ⟨hth, hge⟩ := hrel _ _ _ hq1
  refine cRV (As := []) (ci := 0) ⟨hx, hb, hml, hown, hts⟩ hOK hz hS (zdropP hP) (mtX6_thrown l D k a6 Z hOK t6 x hth) (kX6_thrown hts q1969 rfl rfl ⟨Nat.le_of_ble_eq_true rfl, Nat.le_of_ble_eq_true rfl⟩) 0 rfl rfl rfl hl.1 rfl (lv_room (Nat.le_of_ble_eq_true rfl)) ⟨(by show cells + mc ≤ 603072; exact hcells), (by show slots + ms ≤ 7190634; exact hslots)⟩ dL_law_1098 ?_
  refine lv_iload hx hb dL_law_1101 (lv_at hl 1 rfl) ?_
  refine lv_icmp_eq (tgt := 1108) hx hb dL_law_1103 (by decide) (fun _ => ?_) (fun c1 => absurd rfl c1)
  refine lv_iload hx hb dL_law_1108 (lv_at hl 1 rfl) ?_
  refine lv_if_ne (tgt := 1132) hx hb dL_law_1110 (by decide) (fun _ => ?_) (fun c2 => ?_)
  · refine lv_goto (tgt := 2965) hx hb dL_law_1132 (by decide) ?_
    exact kk _ _ _ _ _ hq1 hP hD hS _ (lv_sub hl [2, 3, 4, 5, 6] rfl)
  · refine lv_aload_n hx hb dL_law_1113 rfl (lv_at hl 5 rfl) ?_
    refine lv_iconst (v := (0 : Int32)) hx hb dL_law_1114 (by decide) ?_
    refine va_lald hx hb hK hP ((cT k a6 t6).length + V.length) 3 (ouIdx _ _ _ _) rfl out_in dL_law_1115 ?_
    rw [show g (Int32.toNatClampNeg (0 : Int32)) = bzL r6 from hge c2]
    refine lv_iload hx hb dL_law_1116 (lv_at hl 0 rfl) ?_
    cases r6 with
    | true =>
      refine lv_if_eq (tgt := 1125) hx hb dL_law_1118 (by decide) (fun c4 => absurd c4 (by decide)) (fun _ => ?_)
      refine lv_lconst (v := (1 : Int64)) hx hb dL_law_1121 (by decide) ?_
      refine lv_goto (tgt := 1126) hx hb dL_law_1122 (by decide) ?_
      rw [show bzL true = (1 : Int64) from rfl]
      refine lv_lcmp_same hx hb dL_law_1126 ?_
      refine lv_if_eq (tgt := 1132) hx hb dL_law_1127 (by decide) (fun _ => ?_) (fun c3 => absurd rfl c3)
      refine lv_goto (tgt := 2965) hx hb dL_law_1132 (by decide) ?_
      exact kk _ _ _ _ _ hq1 hP hD hS _ (lv_sub hl [2, 3, 4, 5, 6] rfl)
    | false =>
      refine lv_if_eq (tgt := 1125) hx hb dL_law_1118 (by decide) (fun _ => ?_) (fun c4 => absurd rfl c4)
      refine lv_lconst (v := (0 : Int64)) hx hb dL_law_1125 (by decide) ?_
      rw [show bzL false = (0 : Int64) from rfl]
      refine lv_lcmp_same hx hb dL_law_1126 ?_
      refine lv_if_eq (tgt := 1132) hx hb dL_law_1127 (by decide) (fun _ => ?_) (fun c3 => absurd rfl c3)
      refine lv_goto (tgt := 2965) hx hb dL_law_1132 (by decide) ?_
      exact kk _ _ _ _ _ hq1 hP hD hS _ (lv_sub hl [2, 3, 4, 5, 6] rfl)
set_option maxRecDepth 100000 in
theorem cs_bath {p : Program} {l : Launch} {e : Env} {s : State} {m : MethodId} {below : List Frame} {meth : Method} {c : Code} {Q : State → Prop} {D : va_G} {k : Nat → ClassId} {Z : zZ} {b L : Nat} {xs : Nat → Int32} (hC : lwC p s m c D k Z b L xs) {a6 : Nat → Nat} {h ao : Nat} {i : Int32} (wo F : va_W) {t t6 : Tw} {p1 : Int32} (hp1 : sAt xs L i 1 p1) {rm : Room} {mc ms : Nat} {P1 : Int32 → (Nat → Int64) → va_W → Prop} {r6 : Int32} (hrc : rm.cells = mc) (hrs : rm.slots = ms) (hfr : rm.frames + 1 ≤ 8192 ∧ 8 + (4 + 11) + rm.locals ≤ 104096) (hM : CtXH l yX0_bath cX0_bath 4 (some .int) hhX0_bath rm Z D zCl wo [.ref h, .int p1, .ref ao] (PWo k ao P1) (fun _ _ => False) mc ms) (hM6 : CtW l yX6_bath cX6_bath 2 (some .int) rX6_bath Z D zCl (cT k a6 t) [.ref (a6 0), .int p1] (fun r' w' => r' = some (.int r6) ∧ w' = cT k a6 t6) 0 0) (hrel : ∀ x g V, P1 x g V → fX6_thrown t6 = some x ∧ (x = 0 → g0 g = r6.toInt64)) {H : Heap} {locs : List Loc} {cells slots : Nat} (hP : va_P D zCl (cT k a6 t ++ (wo ++ F)) H) (hD : va_D (fun q => s.heap.size ≤ q) (cT k a6 t ++ (wo ++ F))) (hS : va_S (fun q => s.heap.size ≤ q) s.heap H locs) (hcells : cells + mc ≤ 603072) (hslots : slots + ms ≤ 7190634) (kk : ∀ x g V H locs, P1 x g V → va_P D zCl (cT k a6 t6 ++ ((V ++ [ouC k ao g]) ++ F)) H → va_D (fun q => s.heap.size ≤ q) (cT k a6 t6 ++ ((V ++ [ouC k ao g]) ++ F)) → va_S (fun q => s.heap.size ≤ q) s.heap H locs → ∀ ls, lv_has ls 7 [(0, .ref b), (1, .ref h), (2, .ref (a6 0)), (3, .ref ao), (4, .int i)] → W p l e room_1 s m #[Value.ref b] below meth c H locs (cells + mc) (slots + ms) Q (F0 m 2965 ls [])) {ls : Array Slot} (hl : lv_has ls 7 [(0, .ref b), (1, .ref h), (2, .ref (a6 0)), (3, .ref ao), (4, .int i)]) : W p l e room_1 s m #[Value.ref b] below meth c H locs cells slots Q (F0 m 1135 ls []) := by
  obtain ⟨hx, hb, hml, hown, hts, hX, hbl, hOK, hz⟩ := hC
  have hK := hOK.1 _ _ _ hz
  have hbA : ¬ (fun q => s.heap.size ≤ q) b := Nat.not_le.mpr hbl
  have hA : ∀ q : Nat, s.heap.size ≤ q → (fun q => s.heap.size ≤ q) q := fun _ h => h
  refine lv_aload_n hx hb dL_law_1135 rfl (lv_at hl 1 rfl) ?_
  refine lw_arg (j := (1 : Int32)) hx hb hX hbl hbA hS hp1 (lv_at hl 0 rfl) (lv_at hl 4 rfl) dL_law_1136 dL_law_1137 dL_law_1139 (by decide) dL_law_1140 dL_law_1141 ?_
  refine lv_aload_n hx hb dL_law_1142 rfl (lv_at hl 3 rfl) ?_
  refine cXSH (cT k a6 t) wo F (As := [.ref h, .int p1, .ref ao]) ⟨hx, hb, hml, hown, hts⟩ hOK hz hS hA hP hD hM (kX0_bath hts q1662 hrc hrs ⟨(by show rm.frames + 1 ≤ 8192; omega), (by show 8 + (4 + 11) + rm.locals ≤ 104096; omega)⟩) rfl hl.1 rfl (lv_room (Nat.le_of_ble_eq_true rfl)) ⟨hcells, hslots⟩ dL_law_1143 (fun E_ w_ ce_ q9_ H locs hq hP hD hS hce hcv hcl => hq.elim) (fun r_ w_ H locs hq hP hD hS => ?_)
  obtain ⟨x, g, V, hq1, rfl, rfl⟩ := hq
  refine lv_istore (lv' := [(5, .int x), (0, .ref b), (1, .ref h), (2, .ref (a6 0)), (3, .ref ao), (4, .int i)]) hx hb dL_law_1146 hl (by decide) rfl (fun ls hl => ?_)
  refine lv_aload_n hx hb dL_law_1148 rfl (lv_at hl 3 rfl) ?_
  refine lw_arg (j := (1 : Int32)) hx hb hX hbl hbA hS hp1 (lv_at hl 1 rfl) (lv_at hl 5 rfl) dL_law_1149 dL_law_1150 dL_law_1152 (by decide) dL_law_1153 dL_law_1154 ?_
  refine cWV [] (cT k a6 t) ((V ++ [ouC k ao g]) ++ F) (As := [.int p1]) (ci := 0) ⟨hx, hb, hml, hown, hts⟩ hOK hz hS hA hP hD hM6 (kX6_bath hts q2229 rfl rfl ⟨Nat.le_of_ble_eq_true rfl, Nat.le_of_ble_eq_true rfl⟩) 0 rfl rfl rfl hl.1 rfl (lv_room (Nat.le_of_ble_eq_true rfl)) ⟨hcells, hslots⟩ dL_law_1155 (fun r_ w_6 H locs hq hP hD hS => ?_)
  obtain ⟨rfl, rfl⟩ := hq
  have hP : va_P D zCl (cT k a6 t6 ++ ((V ++ [ouC k ao g]) ++ F)) _ := hP
  have hD : va_D (fun q => s.heap.size ≤ q) (cT k a6 t6 ++ ((V ++ [ouC k ao g]) ++ F)) := hD
  refine lv_istore (lv' := [(6, .int r6), (5, .int x), (0, .ref b), (1, .ref h), (2, .ref (a6 0)), (3, .ref ao), (4, .int i)]) hx hb dL_law_1158 hl (by decide) rfl (fun ls hl => ?_)
  refine lv_aload_n hx hb dL_law_1160 rfl (lv_at hl 4 rfl) ?_
  obtain ⟨hth, hge⟩ := hrel _ _ _ hq1
  refine cRV (As := []) (ci := 0) ⟨hx, hb, hml, hown, hts⟩ hOK hz hS (zdropP hP) (mtX6_thrown l D k a6 Z hOK t6 x hth) (kX6_thrown hts q1969 rfl rfl ⟨Nat.le_of_ble_eq_true rfl, Nat.le_of_ble_eq_true rfl⟩) 0 rfl rfl rfl hl.1 rfl (lv_room (Nat.le_of_ble_eq_true rfl)) ⟨(by show cells + mc ≤ 603072; exact hcells), (by show slots + ms ≤ 7190634; exact hslots)⟩ dL_law_1161 ?_
  refine lv_iload hx hb dL_law_1164 (lv_at hl 1 rfl) ?_
  refine lv_icmp_eq (tgt := 1171) hx hb dL_law_1166 (by decide) (fun _ => ?_) (fun c1 => absurd rfl c1)
  refine lv_iload hx hb dL_law_1171 (lv_at hl 1 rfl) ?_
  refine lv_if_ne (tgt := 1188) hx hb dL_law_1173 (by decide) (fun _ => ?_) (fun c2 => ?_)
  · refine lv_goto (tgt := 2965) hx hb dL_law_1188 (by decide) ?_
    exact kk _ _ _ _ _ hq1 hP hD hS _ (lv_sub hl [2, 3, 4, 5, 6] rfl)
  · refine lv_aload_n hx hb dL_law_1176 rfl (lv_at hl 5 rfl) ?_
    refine lv_iconst (v := (0 : Int32)) hx hb dL_law_1177 (by decide) ?_
    refine va_lald hx hb hK hP ((cT k a6 t6).length + V.length) 3 (ouIdx _ _ _ _) rfl out_in dL_law_1178 ?_
    rw [show g (Int32.toNatClampNeg (0 : Int32)) = r6.toInt64 from hge c2]
    refine lv_iload hx hb dL_law_1179 (lv_at hl 0 rfl) ?_
    refine lv_i2l (v := r6.toInt64) hx hb dL_law_1181 rfl ?_
    refine lv_lcmp_same hx hb dL_law_1182 ?_
    refine lv_if_eq (tgt := 1188) hx hb dL_law_1183 (by decide) (fun _ => ?_) (fun c3 => absurd rfl c3)
    refine lv_goto (tgt := 2965) hx hb dL_law_1188 (by decide) ?_
    exact kk _ _ _ _ _ hq1 hP hD hS _ (lv_sub hl [2, 3, 4, 5, 6] rfl)
set_option maxRecDepth 100000 in
theorem cs_keep {p : Program} {l : Launch} {e : Env} {s : State} {m : MethodId} {below : List Frame} {meth : Method} {c : Code} {Q : State → Prop} {D : va_G} {k : Nat → ClassId} {Z : zZ} {b L : Nat} {xs : Nat → Int32} (hC : lwC p s m c D k Z b L xs) {a6 : Nat → Nat} {h ao : Nat} {i : Int32} (wo F : va_W) {t t6 : Tw} {p1 : Int32} (hp1 : sAt xs L i 1 p1) {rm : Room} {mc ms : Nat} {P1 : Int32 → (Nat → Int64) → va_W → Prop} {r6 : Int32} (hrc : rm.cells = mc) (hrs : rm.slots = ms) (hfr : rm.frames + 1 ≤ 8192 ∧ 8 + (4 + 11) + rm.locals ≤ 104096) (hM : CtXH l yX0_keep cX0_keep 4 (some .int) hhX0_keep rm Z D zCl wo [.ref h, .int p1, .ref ao] (PWo k ao P1) (fun _ _ => False) mc ms) (hM6 : CtW l yX6_keep cX6_keep 2 (some .int) rX6_keep Z D zCl (cT k a6 t) [.ref (a6 0), .int p1] (fun r' w' => r' = some (.int r6) ∧ w' = cT k a6 t6) 0 0) (hrel : ∀ x g V, P1 x g V → fX6_thrown t6 = some x ∧ (x = 0 → g0 g = r6.toInt64)) {H : Heap} {locs : List Loc} {cells slots : Nat} (hP : va_P D zCl (cT k a6 t ++ (wo ++ F)) H) (hD : va_D (fun q => s.heap.size ≤ q) (cT k a6 t ++ (wo ++ F))) (hS : va_S (fun q => s.heap.size ≤ q) s.heap H locs) (hcells : cells + mc ≤ 603072) (hslots : slots + ms ≤ 7190634) (kk : ∀ x g V H locs, P1 x g V → va_P D zCl (cT k a6 t6 ++ ((V ++ [ouC k ao g]) ++ F)) H → va_D (fun q => s.heap.size ≤ q) (cT k a6 t6 ++ ((V ++ [ouC k ao g]) ++ F)) → va_S (fun q => s.heap.size ≤ q) s.heap H locs → ∀ ls, lv_has ls 7 [(0, .ref b), (1, .ref h), (2, .ref (a6 0)), (3, .ref ao), (4, .int i)] → W p l e room_1 s m #[Value.ref b] below meth c H locs (cells + mc) (slots + ms) Q (F0 m 2965 ls [])) {ls : Array Slot} (hl : lv_has ls 7 [(0, .ref b), (1, .ref h), (2, .ref (a6 0)), (3, .ref ao), (4, .int i)]) : W p l e room_1 s m #[Value.ref b] below meth c H locs cells slots Q (F0 m 1191 ls []) := by
  obtain ⟨hx, hb, hml, hown, hts, hX, hbl, hOK, hz⟩ := hC
  have hK := hOK.1 _ _ _ hz
  have hbA : ¬ (fun q => s.heap.size ≤ q) b := Nat.not_le.mpr hbl
  have hA : ∀ q : Nat, s.heap.size ≤ q → (fun q => s.heap.size ≤ q) q := fun _ h => h
  refine lv_aload_n hx hb dL_law_1191 rfl (lv_at hl 1 rfl) ?_
  refine lw_arg (j := (1 : Int32)) hx hb hX hbl hbA hS hp1 (lv_at hl 0 rfl) (lv_at hl 4 rfl) dL_law_1192 dL_law_1193 dL_law_1195 (by decide) dL_law_1196 dL_law_1197 ?_
  refine lv_aload_n hx hb dL_law_1198 rfl (lv_at hl 3 rfl) ?_
  refine cXSH (cT k a6 t) wo F (As := [.ref h, .int p1, .ref ao]) ⟨hx, hb, hml, hown, hts⟩ hOK hz hS hA hP hD hM (kX0_keep hts q1669 hrc hrs ⟨(by show rm.frames + 1 ≤ 8192; omega), (by show 8 + (4 + 11) + rm.locals ≤ 104096; omega)⟩) rfl hl.1 rfl (lv_room (Nat.le_of_ble_eq_true rfl)) ⟨hcells, hslots⟩ dL_law_1199 (fun E_ w_ ce_ q9_ H locs hq hP hD hS hce hcv hcl => hq.elim) (fun r_ w_ H locs hq hP hD hS => ?_)
  obtain ⟨x, g, V, hq1, rfl, rfl⟩ := hq
  refine lv_istore (lv' := [(5, .int x), (0, .ref b), (1, .ref h), (2, .ref (a6 0)), (3, .ref ao), (4, .int i)]) hx hb dL_law_1202 hl (by decide) rfl (fun ls hl => ?_)
  refine lv_aload_n hx hb dL_law_1204 rfl (lv_at hl 3 rfl) ?_
  refine lw_arg (j := (1 : Int32)) hx hb hX hbl hbA hS hp1 (lv_at hl 1 rfl) (lv_at hl 5 rfl) dL_law_1205 dL_law_1206 dL_law_1208 (by decide) dL_law_1209 dL_law_1210 ?_
  refine cWV [] (cT k a6 t) ((V ++ [ouC k ao g]) ++ F) (As := [.int p1]) (ci := 0) ⟨hx, hb, hml, hown, hts⟩ hOK hz hS hA hP hD hM6 (kX6_keep hts q2233 rfl rfl ⟨Nat.le_of_ble_eq_true rfl, Nat.le_of_ble_eq_true rfl⟩) 0 rfl rfl rfl hl.1 rfl (lv_room (Nat.le_of_ble_eq_true rfl)) ⟨hcells, hslots⟩ dL_law_1211 (fun r_ w_6 H locs hq hP hD hS => ?_)
  obtain ⟨rfl, rfl⟩ := hq
  have hP : va_P D zCl (cT k a6 t6 ++ ((V ++ [ouC k ao g]) ++ F)) _ := hP
  have hD : va_D (fun q => s.heap.size ≤ q) (cT k a6 t6 ++ ((V ++ [ouC k ao g]) ++ F)) := hD
  refine lv_istore (lv' := [(6, .int r6), (5, .int x), (0, .ref b), (1, .ref h), (2, .ref (a6 0)), (3, .ref ao), (4, .int i)]) hx hb dL_law_1214 hl (by decide) rfl (fun ls hl => ?_)
  refine lv_aload_n hx hb dL_law_1216 rfl (lv_at hl 4 rfl) ?_
  obtain ⟨hth, hge⟩ := hrel _ _ _ hq1
  refine cRV (As := []) (ci := 0) ⟨hx, hb, hml, hown, hts⟩ hOK hz hS (zdropP hP) (mtX6_thrown l D k a6 Z hOK t6 x hth) (kX6_thrown hts q1969 rfl rfl ⟨Nat.le_of_ble_eq_true rfl, Nat.le_of_ble_eq_true rfl⟩) 0 rfl rfl rfl hl.1 rfl (lv_room (Nat.le_of_ble_eq_true rfl)) ⟨(by show cells + mc ≤ 603072; exact hcells), (by show slots + ms ≤ 7190634; exact hslots)⟩ dL_law_1217 ?_
  refine lv_iload hx hb dL_law_1220 (lv_at hl 1 rfl) ?_
  refine lv_icmp_eq (tgt := 1227) hx hb dL_law_1222 (by decide) (fun _ => ?_) (fun c1 => absurd rfl c1)
  refine lv_iload hx hb dL_law_1227 (lv_at hl 1 rfl) ?_
  refine lv_if_ne (tgt := 1244) hx hb dL_law_1229 (by decide) (fun _ => ?_) (fun c2 => ?_)
  · refine lv_goto (tgt := 2965) hx hb dL_law_1244 (by decide) ?_
    exact kk _ _ _ _ _ hq1 hP hD hS _ (lv_sub hl [2, 3, 4, 5, 6] rfl)
  · refine lv_aload_n hx hb dL_law_1232 rfl (lv_at hl 5 rfl) ?_
    refine lv_iconst (v := (0 : Int32)) hx hb dL_law_1233 (by decide) ?_
    refine va_lald hx hb hK hP ((cT k a6 t6).length + V.length) 3 (ouIdx _ _ _ _) rfl out_in dL_law_1234 ?_
    rw [show g (Int32.toNatClampNeg (0 : Int32)) = r6.toInt64 from hge c2]
    refine lv_iload hx hb dL_law_1235 (lv_at hl 0 rfl) ?_
    refine lv_i2l (v := r6.toInt64) hx hb dL_law_1237 rfl ?_
    refine lv_lcmp_same hx hb dL_law_1238 ?_
    refine lv_if_eq (tgt := 1244) hx hb dL_law_1239 (by decide) (fun _ => ?_) (fun c3 => absurd rfl c3)
    refine lv_goto (tgt := 2965) hx hb dL_law_1244 (by decide) ?_
    exact kk _ _ _ _ _ hq1 hP hD hS _ (lv_sub hl [2, 3, 4, 5, 6] rfl)
set_option maxRecDepth 100000 in
theorem cs_masons {p : Program} {l : Launch} {e : Env} {s : State} {m : MethodId} {below : List Frame} {meth : Method} {c : Code} {Q : State → Prop} {D : va_G} {k : Nat → ClassId} {Z : zZ} {b L : Nat} {xs : Nat → Int32} (hC : lwC p s m c D k Z b L xs) {a6 : Nat → Nat} {h ao : Nat} {i : Int32} (wo F : va_W) {t t6 : Tw} {p1 : Int32} (hp1 : sAt xs L i 1 p1) {rm : Room} {mc ms : Nat} {P1 : Int32 → (Nat → Int64) → va_W → Prop} {r6 : Int32} (hrc : rm.cells = mc) (hrs : rm.slots = ms) (hfr : rm.frames + 1 ≤ 8192 ∧ 8 + (4 + 11) + rm.locals ≤ 104096) (hM : CtXH l yX0_masons cX0_masons 4 (some .int) hhX0_masons rm Z D zCl wo [.ref h, .int p1, .ref ao] (PWo k ao P1) (fun _ _ => False) mc ms) (hM6 : CtW l yX6_masons cX6_masons 2 (some .int) rX6_masons Z D zCl (cT k a6 t) [.ref (a6 0), .int p1] (fun r' w' => r' = some (.int r6) ∧ w' = cT k a6 t6) 0 0) (hrel : ∀ x g V, P1 x g V → fX6_thrown t6 = some x ∧ (x = 0 → g0 g = r6.toInt64)) {H : Heap} {locs : List Loc} {cells slots : Nat} (hP : va_P D zCl (cT k a6 t ++ (wo ++ F)) H) (hD : va_D (fun q => s.heap.size ≤ q) (cT k a6 t ++ (wo ++ F))) (hS : va_S (fun q => s.heap.size ≤ q) s.heap H locs) (hcells : cells + mc ≤ 603072) (hslots : slots + ms ≤ 7190634) (kk : ∀ x g V H locs, P1 x g V → va_P D zCl (cT k a6 t6 ++ ((V ++ [ouC k ao g]) ++ F)) H → va_D (fun q => s.heap.size ≤ q) (cT k a6 t6 ++ ((V ++ [ouC k ao g]) ++ F)) → va_S (fun q => s.heap.size ≤ q) s.heap H locs → ∀ ls, lv_has ls 7 [(0, .ref b), (1, .ref h), (2, .ref (a6 0)), (3, .ref ao), (4, .int i)] → W p l e room_1 s m #[Value.ref b] below meth c H locs (cells + mc) (slots + ms) Q (F0 m 2965 ls [])) {ls : Array Slot} (hl : lv_has ls 7 [(0, .ref b), (1, .ref h), (2, .ref (a6 0)), (3, .ref ao), (4, .int i)]) : W p l e room_1 s m #[Value.ref b] below meth c H locs cells slots Q (F0 m 1247 ls []) := by
  obtain ⟨hx, hb, hml, hown, hts, hX, hbl, hOK, hz⟩ := hC
  have hK := hOK.1 _ _ _ hz
  have hbA : ¬ (fun q => s.heap.size ≤ q) b := Nat.not_le.mpr hbl
  have hA : ∀ q : Nat, s.heap.size ≤ q → (fun q => s.heap.size ≤ q) q := fun _ h => h
  refine lv_aload_n hx hb dL_law_1247 rfl (lv_at hl 1 rfl) ?_
  refine lw_arg (j := (1 : Int32)) hx hb hX hbl hbA hS hp1 (lv_at hl 0 rfl) (lv_at hl 4 rfl) dL_law_1248 dL_law_1249 dL_law_1251 (by decide) dL_law_1252 dL_law_1253 ?_
  refine lv_aload_n hx hb dL_law_1254 rfl (lv_at hl 3 rfl) ?_
  refine cXSH (cT k a6 t) wo F (As := [.ref h, .int p1, .ref ao]) ⟨hx, hb, hml, hown, hts⟩ hOK hz hS hA hP hD hM (kX0_masons hts q1676 hrc hrs ⟨(by show rm.frames + 1 ≤ 8192; omega), (by show 8 + (4 + 11) + rm.locals ≤ 104096; omega)⟩) rfl hl.1 rfl (lv_room (Nat.le_of_ble_eq_true rfl)) ⟨hcells, hslots⟩ dL_law_1255 (fun E_ w_ ce_ q9_ H locs hq hP hD hS hce hcv hcl => hq.elim) (fun r_ w_ H locs hq hP hD hS => ?_)
  obtain ⟨x, g, V, hq1, rfl, rfl⟩ := hq
  refine lv_istore (lv' := [(5, .int x), (0, .ref b), (1, .ref h), (2, .ref (a6 0)), (3, .ref ao), (4, .int i)]) hx hb dL_law_1258 hl (by decide) rfl (fun ls hl => ?_)
  refine lv_aload_n hx hb dL_law_1260 rfl (lv_at hl 3 rfl) ?_
  refine lw_arg (j := (1 : Int32)) hx hb hX hbl hbA hS hp1 (lv_at hl 1 rfl) (lv_at hl 5 rfl) dL_law_1261 dL_law_1262 dL_law_1264 (by decide) dL_law_1265 dL_law_1266 ?_
  refine cWV [] (cT k a6 t) ((V ++ [ouC k ao g]) ++ F) (As := [.int p1]) (ci := 0) ⟨hx, hb, hml, hown, hts⟩ hOK hz hS hA hP hD hM6 (kX6_masons hts q2237 rfl rfl ⟨Nat.le_of_ble_eq_true rfl, Nat.le_of_ble_eq_true rfl⟩) 0 rfl rfl rfl hl.1 rfl (lv_room (Nat.le_of_ble_eq_true rfl)) ⟨hcells, hslots⟩ dL_law_1267 (fun r_ w_6 H locs hq hP hD hS => ?_)
  obtain ⟨rfl, rfl⟩ := hq
  have hP : va_P D zCl (cT k a6 t6 ++ ((V ++ [ouC k ao g]) ++ F)) _ := hP
  have hD : va_D (fun q => s.heap.size ≤ q) (cT k a6 t6 ++ ((V ++ [ouC k ao g]) ++ F)) := hD
  refine lv_istore (lv' := [(6, .int r6), (5, .int x), (0, .ref b), (1, .ref h), (2, .ref (a6 0)), (3, .ref ao), (4, .int i)]) hx hb dL_law_1270 hl (by decide) rfl (fun ls hl => ?_)
  refine lv_aload_n hx hb dL_law_1272 rfl (lv_at hl 4 rfl) ?_
  obtain ⟨hth, hge⟩ := hrel _ _ _ hq1
  refine cRV (As := []) (ci := 0) ⟨hx, hb, hml, hown, hts⟩ hOK hz hS (zdropP hP) (mtX6_thrown l D k a6 Z hOK t6 x hth) (kX6_thrown hts q1969 rfl rfl ⟨Nat.le_of_ble_eq_true rfl, Nat.le_of_ble_eq_true rfl⟩) 0 rfl rfl rfl hl.1 rfl (lv_room (Nat.le_of_ble_eq_true rfl)) ⟨(by show cells + mc ≤ 603072; exact hcells), (by show slots + ms ≤ 7190634; exact hslots)⟩ dL_law_1273 ?_
  refine lv_iload hx hb dL_law_1276 (lv_at hl 1 rfl) ?_
  refine lv_icmp_eq (tgt := 1283) hx hb dL_law_1278 (by decide) (fun _ => ?_) (fun c1 => absurd rfl c1)
  refine lv_iload hx hb dL_law_1283 (lv_at hl 1 rfl) ?_
  refine lv_if_ne (tgt := 1300) hx hb dL_law_1285 (by decide) (fun _ => ?_) (fun c2 => ?_)
  · refine lv_goto (tgt := 2965) hx hb dL_law_1300 (by decide) ?_
    exact kk _ _ _ _ _ hq1 hP hD hS _ (lv_sub hl [2, 3, 4, 5, 6] rfl)
  · refine lv_aload_n hx hb dL_law_1288 rfl (lv_at hl 5 rfl) ?_
    refine lv_iconst (v := (0 : Int32)) hx hb dL_law_1289 (by decide) ?_
    refine va_lald hx hb hK hP ((cT k a6 t6).length + V.length) 3 (ouIdx _ _ _ _) rfl out_in dL_law_1290 ?_
    rw [show g (Int32.toNatClampNeg (0 : Int32)) = r6.toInt64 from hge c2]
    refine lv_iload hx hb dL_law_1291 (lv_at hl 0 rfl) ?_
    refine lv_i2l (v := r6.toInt64) hx hb dL_law_1293 rfl ?_
    refine lv_lcmp_same hx hb dL_law_1294 ?_
    refine lv_if_eq (tgt := 1300) hx hb dL_law_1295 (by decide) (fun _ => ?_) (fun c3 => absurd rfl c3)
    refine lv_goto (tgt := 2965) hx hb dL_law_1300 (by decide) ?_
    exact kk _ _ _ _ _ hq1 hP hD hS _ (lv_sub hl [2, 3, 4, 5, 6] rfl)
set_option maxRecDepth 100000 in
theorem cs_buy {p : Program} {l : Launch} {e : Env} {s : State} {m : MethodId} {below : List Frame} {meth : Method} {c : Code} {Q : State → Prop} {D : va_G} {k : Nat → ClassId} {Z : zZ} {b L : Nat} {xs : Nat → Int32} (hC : lwC p s m c D k Z b L xs) {a6 : Nat → Nat} {h ao : Nat} {i : Int32} (wo F : va_W) {t t6 : Tw} {p1 : Int32} (hp1 : sAt xs L i 1 p1) {rm : Room} {mc ms : Nat} {P1 : Int32 → (Nat → Int64) → va_W → Prop} {r6 : Int32} (hrc : rm.cells = mc) (hrs : rm.slots = ms) (hfr : rm.frames + 1 ≤ 8192 ∧ 8 + (4 + 11) + rm.locals ≤ 104096) (hM : CtXH l yX0_buy cX0_buy 4 (some .int) hhX0_buy rm Z D zCl wo [.ref h, .int p1, .ref ao] (PWo k ao P1) (fun _ _ => False) mc ms) (hM6 : CtW l yX6_buy cX6_buy 3 (some .int) rX6_buy Z D zCl (cT k a6 t) [.ref (a6 0), .int p1] (fun r' w' => r' = some (.int r6) ∧ w' = cT k a6 t6) 0 0) (hrel : ∀ x g V, P1 x g V → fX6_thrown t6 = some x ∧ (x = 0 → g0 g = r6.toInt64)) {H : Heap} {locs : List Loc} {cells slots : Nat} (hP : va_P D zCl (cT k a6 t ++ (wo ++ F)) H) (hD : va_D (fun q => s.heap.size ≤ q) (cT k a6 t ++ (wo ++ F))) (hS : va_S (fun q => s.heap.size ≤ q) s.heap H locs) (hcells : cells + mc ≤ 603072) (hslots : slots + ms ≤ 7190634) (kk : ∀ x g V H locs, P1 x g V → va_P D zCl (cT k a6 t6 ++ ((V ++ [ouC k ao g]) ++ F)) H → va_D (fun q => s.heap.size ≤ q) (cT k a6 t6 ++ ((V ++ [ouC k ao g]) ++ F)) → va_S (fun q => s.heap.size ≤ q) s.heap H locs → ∀ ls, lv_has ls 7 [(0, .ref b), (1, .ref h), (2, .ref (a6 0)), (3, .ref ao), (4, .int i)] → W p l e room_1 s m #[Value.ref b] below meth c H locs (cells + mc) (slots + ms) Q (F0 m 2965 ls [])) {ls : Array Slot} (hl : lv_has ls 7 [(0, .ref b), (1, .ref h), (2, .ref (a6 0)), (3, .ref ao), (4, .int i)]) : W p l e room_1 s m #[Value.ref b] below meth c H locs cells slots Q (F0 m 1303 ls []) := by
  obtain ⟨hx, hb, hml, hown, hts, hX, hbl, hOK, hz⟩ := hC
  have hK := hOK.1 _ _ _ hz
  have hbA : ¬ (fun q => s.heap.size ≤ q) b := Nat.not_le.mpr hbl
  have hA : ∀ q : Nat, s.heap.size ≤ q → (fun q => s.heap.size ≤ q) q := fun _ h => h
  refine lv_aload_n hx hb dL_law_1303 rfl (lv_at hl 1 rfl) ?_
  refine lw_arg (j := (1 : Int32)) hx hb hX hbl hbA hS hp1 (lv_at hl 0 rfl) (lv_at hl 4 rfl) dL_law_1304 dL_law_1305 dL_law_1307 (by decide) dL_law_1308 dL_law_1309 ?_
  refine lv_aload_n hx hb dL_law_1310 rfl (lv_at hl 3 rfl) ?_
  refine cXSH (cT k a6 t) wo F (As := [.ref h, .int p1, .ref ao]) ⟨hx, hb, hml, hown, hts⟩ hOK hz hS hA hP hD hM (kX0_buy hts q1683 hrc hrs ⟨(by show rm.frames + 1 ≤ 8192; omega), (by show 8 + (4 + 11) + rm.locals ≤ 104096; omega)⟩) rfl hl.1 rfl (lv_room (Nat.le_of_ble_eq_true rfl)) ⟨hcells, hslots⟩ dL_law_1311 (fun E_ w_ ce_ q9_ H locs hq hP hD hS hce hcv hcl => hq.elim) (fun r_ w_ H locs hq hP hD hS => ?_)
  obtain ⟨x, g, V, hq1, rfl, rfl⟩ := hq
  refine lv_istore (lv' := [(5, .int x), (0, .ref b), (1, .ref h), (2, .ref (a6 0)), (3, .ref ao), (4, .int i)]) hx hb dL_law_1314 hl (by decide) rfl (fun ls hl => ?_)
  refine lv_aload_n hx hb dL_law_1316 rfl (lv_at hl 3 rfl) ?_
  refine lw_arg (j := (1 : Int32)) hx hb hX hbl hbA hS hp1 (lv_at hl 1 rfl) (lv_at hl 5 rfl) dL_law_1317 dL_law_1318 dL_law_1320 (by decide) dL_law_1321 dL_law_1322 ?_
  refine cWV [] (cT k a6 t) ((V ++ [ouC k ao g]) ++ F) (As := [.int p1]) (ci := 0) ⟨hx, hb, hml, hown, hts⟩ hOK hz hS hA hP hD hM6 (kX6_buy hts q2241 rfl rfl ⟨Nat.le_of_ble_eq_true rfl, Nat.le_of_ble_eq_true rfl⟩) 0 rfl rfl rfl hl.1 rfl (lv_room (Nat.le_of_ble_eq_true rfl)) ⟨hcells, hslots⟩ dL_law_1323 (fun r_ w_6 H locs hq hP hD hS => ?_)
  obtain ⟨rfl, rfl⟩ := hq
  have hP : va_P D zCl (cT k a6 t6 ++ ((V ++ [ouC k ao g]) ++ F)) _ := hP
  have hD : va_D (fun q => s.heap.size ≤ q) (cT k a6 t6 ++ ((V ++ [ouC k ao g]) ++ F)) := hD
  refine lv_istore (lv' := [(6, .int r6), (5, .int x), (0, .ref b), (1, .ref h), (2, .ref (a6 0)), (3, .ref ao), (4, .int i)]) hx hb dL_law_1326 hl (by decide) rfl (fun ls hl => ?_)
  refine lv_aload_n hx hb dL_law_1328 rfl (lv_at hl 4 rfl) ?_
  obtain ⟨hth, hge⟩ := hrel _ _ _ hq1
  refine cRV (As := []) (ci := 0) ⟨hx, hb, hml, hown, hts⟩ hOK hz hS (zdropP hP) (mtX6_thrown l D k a6 Z hOK t6 x hth) (kX6_thrown hts q1969 rfl rfl ⟨Nat.le_of_ble_eq_true rfl, Nat.le_of_ble_eq_true rfl⟩) 0 rfl rfl rfl hl.1 rfl (lv_room (Nat.le_of_ble_eq_true rfl)) ⟨(by show cells + mc ≤ 603072; exact hcells), (by show slots + ms ≤ 7190634; exact hslots)⟩ dL_law_1329 ?_
  refine lv_iload hx hb dL_law_1332 (lv_at hl 1 rfl) ?_
  refine lv_icmp_eq (tgt := 1339) hx hb dL_law_1334 (by decide) (fun _ => ?_) (fun c1 => absurd rfl c1)
  refine lv_iload hx hb dL_law_1339 (lv_at hl 1 rfl) ?_
  refine lv_if_ne (tgt := 1356) hx hb dL_law_1341 (by decide) (fun _ => ?_) (fun c2 => ?_)
  · refine lv_goto (tgt := 2965) hx hb dL_law_1356 (by decide) ?_
    exact kk _ _ _ _ _ hq1 hP hD hS _ (lv_sub hl [2, 3, 4, 5, 6] rfl)
  · refine lv_aload_n hx hb dL_law_1344 rfl (lv_at hl 5 rfl) ?_
    refine lv_iconst (v := (0 : Int32)) hx hb dL_law_1345 (by decide) ?_
    refine va_lald hx hb hK hP ((cT k a6 t6).length + V.length) 3 (ouIdx _ _ _ _) rfl out_in dL_law_1346 ?_
    rw [show g (Int32.toNatClampNeg (0 : Int32)) = r6.toInt64 from hge c2]
    refine lv_iload hx hb dL_law_1347 (lv_at hl 0 rfl) ?_
    refine lv_i2l (v := r6.toInt64) hx hb dL_law_1349 rfl ?_
    refine lv_lcmp_same hx hb dL_law_1350 ?_
    refine lv_if_eq (tgt := 1356) hx hb dL_law_1351 (by decide) (fun _ => ?_) (fun c3 => absurd rfl c3)
    refine lv_goto (tgt := 2965) hx hb dL_law_1356 (by decide) ?_
    exact kk _ _ _ _ _ hq1 hP hD hS _ (lv_sub hl [2, 3, 4, 5, 6] rfl)
set_option maxRecDepth 100000 in
theorem cs_calm {p : Program} {l : Launch} {e : Env} {s : State} {m : MethodId} {below : List Frame} {meth : Method} {c : Code} {Q : State → Prop} {D : va_G} {k : Nat → ClassId} {Z : zZ} {b L : Nat} {xs : Nat → Int32} (hC : lwC p s m c D k Z b L xs) {a6 : Nat → Nat} {h ao : Nat} {i : Int32} (wo F : va_W) {t t6 : Tw} {p1 : Int32} (hp1 : sAt xs L i 1 p1) {rm : Room} {mc ms : Nat} {P1 : Int32 → (Nat → Int64) → va_W → Prop} {r6 : Int32} (hrc : rm.cells = mc) (hrs : rm.slots = ms) (hfr : rm.frames + 1 ≤ 8192 ∧ 8 + (4 + 11) + rm.locals ≤ 104096) (hM : CtXH l yX0_calm cX0_calm 4 (some .int) hhX0_calm rm Z D zCl wo [.ref h, .int p1, .ref ao] (PWo k ao P1) (fun _ _ => False) mc ms) (hM6 : CtW l yX6_calm cX6_calm 3 (some .int) rX6_calm Z D zCl (cT k a6 t) [.ref (a6 0), .int p1] (fun r' w' => r' = some (.int r6) ∧ w' = cT k a6 t6) 0 0) (hrel : ∀ x g V, P1 x g V → fX6_thrown t6 = some x ∧ (x = 0 → g0 g = r6.toInt64)) {H : Heap} {locs : List Loc} {cells slots : Nat} (hP : va_P D zCl (cT k a6 t ++ (wo ++ F)) H) (hD : va_D (fun q => s.heap.size ≤ q) (cT k a6 t ++ (wo ++ F))) (hS : va_S (fun q => s.heap.size ≤ q) s.heap H locs) (hcells : cells + mc ≤ 603072) (hslots : slots + ms ≤ 7190634) (kk : ∀ x g V H locs, P1 x g V → va_P D zCl (cT k a6 t6 ++ ((V ++ [ouC k ao g]) ++ F)) H → va_D (fun q => s.heap.size ≤ q) (cT k a6 t6 ++ ((V ++ [ouC k ao g]) ++ F)) → va_S (fun q => s.heap.size ≤ q) s.heap H locs → ∀ ls, lv_has ls 7 [(0, .ref b), (1, .ref h), (2, .ref (a6 0)), (3, .ref ao), (4, .int i)] → W p l e room_1 s m #[Value.ref b] below meth c H locs (cells + mc) (slots + ms) Q (F0 m 2965 ls [])) {ls : Array Slot} (hl : lv_has ls 7 [(0, .ref b), (1, .ref h), (2, .ref (a6 0)), (3, .ref ao), (4, .int i)]) : W p l e room_1 s m #[Value.ref b] below meth c H locs cells slots Q (F0 m 1359 ls []) := by
  obtain ⟨hx, hb, hml, hown, hts, hX, hbl, hOK, hz⟩ := hC
  have hK := hOK.1 _ _ _ hz
  have hbA : ¬ (fun q => s.heap.size ≤ q) b := Nat.not_le.mpr hbl
  have hA : ∀ q : Nat, s.heap.size ≤ q → (fun q => s.heap.size ≤ q) q := fun _ h => h
  refine lv_aload_n hx hb dL_law_1359 rfl (lv_at hl 1 rfl) ?_
  refine lw_arg (j := (1 : Int32)) hx hb hX hbl hbA hS hp1 (lv_at hl 0 rfl) (lv_at hl 4 rfl) dL_law_1360 dL_law_1361 dL_law_1363 (by decide) dL_law_1364 dL_law_1365 ?_
  refine lv_aload_n hx hb dL_law_1366 rfl (lv_at hl 3 rfl) ?_
  refine cXSH (cT k a6 t) wo F (As := [.ref h, .int p1, .ref ao]) ⟨hx, hb, hml, hown, hts⟩ hOK hz hS hA hP hD hM (kX0_calm hts q1691 hrc hrs ⟨(by show rm.frames + 1 ≤ 8192; omega), (by show 8 + (4 + 11) + rm.locals ≤ 104096; omega)⟩) rfl hl.1 rfl (lv_room (Nat.le_of_ble_eq_true rfl)) ⟨hcells, hslots⟩ dL_law_1367 (fun E_ w_ ce_ q9_ H locs hq hP hD hS hce hcv hcl => hq.elim) (fun r_ w_ H locs hq hP hD hS => ?_)
  obtain ⟨x, g, V, hq1, rfl, rfl⟩ := hq
  refine lv_istore (lv' := [(5, .int x), (0, .ref b), (1, .ref h), (2, .ref (a6 0)), (3, .ref ao), (4, .int i)]) hx hb dL_law_1370 hl (by decide) rfl (fun ls hl => ?_)
  refine lv_aload_n hx hb dL_law_1372 rfl (lv_at hl 3 rfl) ?_
  refine lw_arg (j := (1 : Int32)) hx hb hX hbl hbA hS hp1 (lv_at hl 1 rfl) (lv_at hl 5 rfl) dL_law_1373 dL_law_1374 dL_law_1376 (by decide) dL_law_1377 dL_law_1378 ?_
  refine cWV [] (cT k a6 t) ((V ++ [ouC k ao g]) ++ F) (As := [.int p1]) (ci := 0) ⟨hx, hb, hml, hown, hts⟩ hOK hz hS hA hP hD hM6 (kX6_calm hts q2248 rfl rfl ⟨Nat.le_of_ble_eq_true rfl, Nat.le_of_ble_eq_true rfl⟩) 0 rfl rfl rfl hl.1 rfl (lv_room (Nat.le_of_ble_eq_true rfl)) ⟨hcells, hslots⟩ dL_law_1379 (fun r_ w_6 H locs hq hP hD hS => ?_)
  obtain ⟨rfl, rfl⟩ := hq
  have hP : va_P D zCl (cT k a6 t6 ++ ((V ++ [ouC k ao g]) ++ F)) _ := hP
  have hD : va_D (fun q => s.heap.size ≤ q) (cT k a6 t6 ++ ((V ++ [ouC k ao g]) ++ F)) := hD
  refine lv_istore (lv' := [(6, .int r6), (5, .int x), (0, .ref b), (1, .ref h), (2, .ref (a6 0)), (3, .ref ao), (4, .int i)]) hx hb dL_law_1382 hl (by decide) rfl (fun ls hl => ?_)
  refine lv_aload_n hx hb dL_law_1384 rfl (lv_at hl 4 rfl) ?_
  obtain ⟨hth, hge⟩ := hrel _ _ _ hq1
  refine cRV (As := []) (ci := 0) ⟨hx, hb, hml, hown, hts⟩ hOK hz hS (zdropP hP) (mtX6_thrown l D k a6 Z hOK t6 x hth) (kX6_thrown hts q1969 rfl rfl ⟨Nat.le_of_ble_eq_true rfl, Nat.le_of_ble_eq_true rfl⟩) 0 rfl rfl rfl hl.1 rfl (lv_room (Nat.le_of_ble_eq_true rfl)) ⟨(by show cells + mc ≤ 603072; exact hcells), (by show slots + ms ≤ 7190634; exact hslots)⟩ dL_law_1385 ?_
  refine lv_iload hx hb dL_law_1388 (lv_at hl 1 rfl) ?_
  refine lv_icmp_eq (tgt := 1395) hx hb dL_law_1390 (by decide) (fun _ => ?_) (fun c1 => absurd rfl c1)
  refine lv_iload hx hb dL_law_1395 (lv_at hl 1 rfl) ?_
  refine lv_if_ne (tgt := 1412) hx hb dL_law_1397 (by decide) (fun _ => ?_) (fun c2 => ?_)
  · refine lv_goto (tgt := 2965) hx hb dL_law_1412 (by decide) ?_
    exact kk _ _ _ _ _ hq1 hP hD hS _ (lv_sub hl [2, 3, 4, 5, 6] rfl)
  · refine lv_aload_n hx hb dL_law_1400 rfl (lv_at hl 5 rfl) ?_
    refine lv_iconst (v := (0 : Int32)) hx hb dL_law_1401 (by decide) ?_
    refine va_lald hx hb hK hP ((cT k a6 t6).length + V.length) 3 (ouIdx _ _ _ _) rfl out_in dL_law_1402 ?_
    rw [show g (Int32.toNatClampNeg (0 : Int32)) = r6.toInt64 from hge c2]
    refine lv_iload hx hb dL_law_1403 (lv_at hl 0 rfl) ?_
    refine lv_i2l (v := r6.toInt64) hx hb dL_law_1405 rfl ?_
    refine lv_lcmp_same hx hb dL_law_1406 ?_
    refine lv_if_eq (tgt := 1412) hx hb dL_law_1407 (by decide) (fun _ => ?_) (fun c3 => absurd rfl c3)
    refine lv_goto (tgt := 2965) hx hb dL_law_1412 (by decide) ?_
    exact kk _ _ _ _ _ hq1 hP hD hS _ (lv_sub hl [2, 3, 4, 5, 6] rfl)
set_option maxRecDepth 100000 in
theorem cs_days {p : Program} {l : Launch} {e : Env} {s : State} {m : MethodId} {below : List Frame} {meth : Method} {c : Code} {Q : State → Prop} {D : va_G} {k : Nat → ClassId} {Z : zZ} {b L : Nat} {xs : Nat → Int32} (hC : lwC p s m c D k Z b L xs) {a6 : Nat → Nat} {h ao : Nat} {i : Int32} (wo F : va_W) {t t6 : Tw} {p1 : Int32} (hp1 : sAt xs L i 1 p1) {rm : Room} {mc ms : Nat} {P1 : Int32 → (Nat → Int64) → va_W → Prop} {r6 : Int32} (hrc : rm.cells = mc) (hrs : rm.slots = ms) (hfr : rm.frames + 1 ≤ 8192 ∧ 8 + (4 + 11) + rm.locals ≤ 104096) (hM : CtXH l yX0_days cX0_days 4 (some .int) hhX0_days rm Z D zCl wo [.ref h, .int p1, .ref ao] (PWo k ao P1) (fun _ _ => False) mc ms) (hM6 : CtW l yX6_days cX6_days 2 (some .int) rX6_days Z D zCl (cT k a6 t) [.ref (a6 0), .int p1] (fun r' w' => r' = some (.int r6) ∧ w' = cT k a6 t6) 0 0) (hrel : ∀ x g V, P1 x g V → fX6_thrown t6 = some x ∧ (x = 0 → g0 g = r6.toInt64)) {H : Heap} {locs : List Loc} {cells slots : Nat} (hP : va_P D zCl (cT k a6 t ++ (wo ++ F)) H) (hD : va_D (fun q => s.heap.size ≤ q) (cT k a6 t ++ (wo ++ F))) (hS : va_S (fun q => s.heap.size ≤ q) s.heap H locs) (hcells : cells + mc ≤ 603072) (hslots : slots + ms ≤ 7190634) (kk : ∀ x g V H locs, P1 x g V → va_P D zCl (cT k a6 t6 ++ ((V ++ [ouC k ao g]) ++ F)) H → va_D (fun q => s.heap.size ≤ q) (cT k a6 t6 ++ ((V ++ [ouC k ao g]) ++ F)) → va_S (fun q => s.heap.size ≤ q) s.heap H locs → ∀ ls, lv_has ls 7 [(0, .ref b), (1, .ref h), (2, .ref (a6 0)), (3, .ref ao), (4, .int i)] → W p l e room_1 s m #[Value.ref b] below meth c H locs (cells + mc) (slots + ms) Q (F0 m 2965 ls [])) {ls : Array Slot} (hl : lv_has ls 7 [(0, .ref b), (1, .ref h), (2, .ref (a6 0)), (3, .ref ao), (4, .int i)]) : W p l e room_1 s m #[Value.ref b] below meth c H locs cells slots Q (F0 m 1415 ls []) := by
  obtain ⟨hx, hb, hml, hown, hts, hX, hbl, hOK, hz⟩ := hC
  have hK := hOK.1 _ _ _ hz
  have hbA : ¬ (fun q => s.heap.size ≤ q) b := Nat.not_le.mpr hbl
  have hA : ∀ q : Nat, s.heap.size ≤ q → (fun q => s.heap.size ≤ q) q := fun _ h => h
  refine lv_aload_n hx hb dL_law_1415 rfl (lv_at hl 1 rfl) ?_
  refine lw_arg (j := (1 : Int32)) hx hb hX hbl hbA hS hp1 (lv_at hl 0 rfl) (lv_at hl 4 rfl) dL_law_1416 dL_law_1417 dL_law_1419 (by decide) dL_law_1420 dL_law_1421 ?_
  refine lv_aload_n hx hb dL_law_1422 rfl (lv_at hl 3 rfl) ?_
  refine cXSH (cT k a6 t) wo F (As := [.ref h, .int p1, .ref ao]) ⟨hx, hb, hml, hown, hts⟩ hOK hz hS hA hP hD hM (kX0_days hts q1698 hrc hrs ⟨(by show rm.frames + 1 ≤ 8192; omega), (by show 8 + (4 + 11) + rm.locals ≤ 104096; omega)⟩) rfl hl.1 rfl (lv_room (Nat.le_of_ble_eq_true rfl)) ⟨hcells, hslots⟩ dL_law_1423 (fun E_ w_ ce_ q9_ H locs hq hP hD hS hce hcv hcl => hq.elim) (fun r_ w_ H locs hq hP hD hS => ?_)
  obtain ⟨x, g, V, hq1, rfl, rfl⟩ := hq
  refine lv_istore (lv' := [(5, .int x), (0, .ref b), (1, .ref h), (2, .ref (a6 0)), (3, .ref ao), (4, .int i)]) hx hb dL_law_1426 hl (by decide) rfl (fun ls hl => ?_)
  refine lv_aload_n hx hb dL_law_1428 rfl (lv_at hl 3 rfl) ?_
  refine lw_arg (j := (1 : Int32)) hx hb hX hbl hbA hS hp1 (lv_at hl 1 rfl) (lv_at hl 5 rfl) dL_law_1429 dL_law_1430 dL_law_1432 (by decide) dL_law_1433 dL_law_1434 ?_
  refine cWV [] (cT k a6 t) ((V ++ [ouC k ao g]) ++ F) (As := [.int p1]) (ci := 0) ⟨hx, hb, hml, hown, hts⟩ hOK hz hS hA hP hD hM6 (kX6_days hts q2252 rfl rfl ⟨Nat.le_of_ble_eq_true rfl, Nat.le_of_ble_eq_true rfl⟩) 0 rfl rfl rfl hl.1 rfl (lv_room (Nat.le_of_ble_eq_true rfl)) ⟨hcells, hslots⟩ dL_law_1435 (fun r_ w_6 H locs hq hP hD hS => ?_)
  obtain ⟨rfl, rfl⟩ := hq
  have hP : va_P D zCl (cT k a6 t6 ++ ((V ++ [ouC k ao g]) ++ F)) _ := hP
  have hD : va_D (fun q => s.heap.size ≤ q) (cT k a6 t6 ++ ((V ++ [ouC k ao g]) ++ F)) := hD
  refine lv_istore (lv' := [(6, .int r6), (5, .int x), (0, .ref b), (1, .ref h), (2, .ref (a6 0)), (3, .ref ao), (4, .int i)]) hx hb dL_law_1438 hl (by decide) rfl (fun ls hl => ?_)
  refine lv_aload_n hx hb dL_law_1440 rfl (lv_at hl 4 rfl) ?_
  obtain ⟨hth, hge⟩ := hrel _ _ _ hq1
  refine cRV (As := []) (ci := 0) ⟨hx, hb, hml, hown, hts⟩ hOK hz hS (zdropP hP) (mtX6_thrown l D k a6 Z hOK t6 x hth) (kX6_thrown hts q1969 rfl rfl ⟨Nat.le_of_ble_eq_true rfl, Nat.le_of_ble_eq_true rfl⟩) 0 rfl rfl rfl hl.1 rfl (lv_room (Nat.le_of_ble_eq_true rfl)) ⟨(by show cells + mc ≤ 603072; exact hcells), (by show slots + ms ≤ 7190634; exact hslots)⟩ dL_law_1441 ?_
  refine lv_iload hx hb dL_law_1444 (lv_at hl 1 rfl) ?_
  refine lv_icmp_eq (tgt := 1451) hx hb dL_law_1446 (by decide) (fun _ => ?_) (fun c1 => absurd rfl c1)
  refine lv_iload hx hb dL_law_1451 (lv_at hl 1 rfl) ?_
  refine lv_if_ne (tgt := 1468) hx hb dL_law_1453 (by decide) (fun _ => ?_) (fun c2 => ?_)
  · refine lv_goto (tgt := 2965) hx hb dL_law_1468 (by decide) ?_
    exact kk _ _ _ _ _ hq1 hP hD hS _ (lv_sub hl [2, 3, 4, 5, 6] rfl)
  · refine lv_aload_n hx hb dL_law_1456 rfl (lv_at hl 5 rfl) ?_
    refine lv_iconst (v := (0 : Int32)) hx hb dL_law_1457 (by decide) ?_
    refine va_lald hx hb hK hP ((cT k a6 t6).length + V.length) 3 (ouIdx _ _ _ _) rfl out_in dL_law_1458 ?_
    rw [show g (Int32.toNatClampNeg (0 : Int32)) = r6.toInt64 from hge c2]
    refine lv_iload hx hb dL_law_1459 (lv_at hl 0 rfl) ?_
    refine lv_i2l (v := r6.toInt64) hx hb dL_law_1461 rfl ?_
    refine lv_lcmp_same hx hb dL_law_1462 ?_
    refine lv_if_eq (tgt := 1468) hx hb dL_law_1463 (by decide) (fun _ => ?_) (fun c3 => absurd rfl c3)
    refine lv_goto (tgt := 2965) hx hb dL_law_1468 (by decide) ?_
    exact kk _ _ _ _ _ hq1 hP hD hS _ (lv_sub hl [2, 3, 4, 5, 6] rfl)
set_option maxRecDepth 100000 in
theorem cs_ahead {p : Program} {l : Launch} {e : Env} {s : State} {m : MethodId} {below : List Frame} {meth : Method} {c : Code} {Q : State → Prop} {D : va_G} {k : Nat → ClassId} {Z : zZ} {b L : Nat} {xs : Nat → Int32} (hC : lwC p s m c D k Z b L xs) {a6 : Nat → Nat} {h ao : Nat} {i : Int32} (wo F : va_W) {t t6 : Tw} {p1 : Int32} (hp1 : sAt xs L i 1 p1) {p2 : Int32} (hp2 : sAt xs L i 2 p2) {p3 : Int32} (hp3 : sAt xs L i 3 p3) {rm : Room} {mc ms : Nat} {P1 : Int32 → (Nat → Int64) → va_W → Prop} {r6 : Int32} (hrc : rm.cells = mc) (hrs : rm.slots = ms) (hfr : rm.frames + 1 ≤ 8192 ∧ 8 + (6 + 11) + rm.locals ≤ 104096) (hM : CtXH l yX0_ahead cX0_ahead 6 (some .int) hhX0_ahead rm Z D zCl wo [.ref h, .int p1, .int p2, .int p3, .ref ao] (PWo k ao P1) (fun _ _ => False) mc ms) (hM6 : CtW l yX6_ahead cX6_ahead 6 (some .int) rX6_ahead Z D zCl (cT k a6 t) [.ref (a6 0), .int p1, .int p2, .int p3] (fun r' w' => r' = some (.int r6) ∧ w' = cT k a6 t6) 0 0) (hrel : ∀ x g V, P1 x g V → fX6_thrown t6 = some x ∧ (x = 0 → g0 g = r6.toInt64)) {H : Heap} {locs : List Loc} {cells slots : Nat} (hP : va_P D zCl (cT k a6 t ++ (wo ++ F)) H) (hD : va_D (fun q => s.heap.size ≤ q) (cT k a6 t ++ (wo ++ F))) (hS : va_S (fun q => s.heap.size ≤ q) s.heap H locs) (hcells : cells + mc ≤ 603072) (hslots : slots + ms ≤ 7190634) (kk : ∀ x g V H locs, P1 x g V → va_P D zCl (cT k a6 t6 ++ ((V ++ [ouC k ao g]) ++ F)) H → va_D (fun q => s.heap.size ≤ q) (cT k a6 t6 ++ ((V ++ [ouC k ao g]) ++ F)) → va_S (fun q => s.heap.size ≤ q) s.heap H locs → ∀ ls, lv_has ls 7 [(0, .ref b), (1, .ref h), (2, .ref (a6 0)), (3, .ref ao), (4, .int i)] → W p l e room_1 s m #[Value.ref b] below meth c H locs (cells + mc) (slots + ms) Q (F0 m 2965 ls [])) {ls : Array Slot} (hl : lv_has ls 7 [(0, .ref b), (1, .ref h), (2, .ref (a6 0)), (3, .ref ao), (4, .int i)]) : W p l e room_1 s m #[Value.ref b] below meth c H locs cells slots Q (F0 m 1471 ls []) := by
  obtain ⟨hx, hb, hml, hown, hts, hX, hbl, hOK, hz⟩ := hC
  have hK := hOK.1 _ _ _ hz
  have hbA : ¬ (fun q => s.heap.size ≤ q) b := Nat.not_le.mpr hbl
  have hA : ∀ q : Nat, s.heap.size ≤ q → (fun q => s.heap.size ≤ q) q := fun _ h => h
  refine lv_aload_n hx hb dL_law_1471 rfl (lv_at hl 1 rfl) ?_
  refine lw_arg (j := (1 : Int32)) hx hb hX hbl hbA hS hp1 (lv_at hl 0 rfl) (lv_at hl 4 rfl) dL_law_1472 dL_law_1473 dL_law_1475 (by decide) dL_law_1476 dL_law_1477 ?_
  refine lw_arg (j := (2 : Int32)) hx hb hX hbl hbA hS hp2 (lv_at hl 0 rfl) (lv_at hl 4 rfl) dL_law_1478 dL_law_1479 dL_law_1481 (by decide) dL_law_1482 dL_law_1483 ?_
  refine lw_arg (j := (3 : Int32)) hx hb hX hbl hbA hS hp3 (lv_at hl 0 rfl) (lv_at hl 4 rfl) dL_law_1484 dL_law_1485 dL_law_1487 (by decide) dL_law_1488 dL_law_1489 ?_
  refine lv_aload_n hx hb dL_law_1490 rfl (lv_at hl 3 rfl) ?_
  refine cXSH (cT k a6 t) wo F (As := [.ref h, .int p1, .int p2, .int p3, .ref ao]) ⟨hx, hb, hml, hown, hts⟩ hOK hz hS hA hP hD hM (kX0_ahead hts q1721 hrc hrs ⟨(by show rm.frames + 1 ≤ 8192; omega), (by show 8 + (6 + 11) + rm.locals ≤ 104096; omega)⟩) rfl hl.1 rfl (lv_room (Nat.le_of_ble_eq_true rfl)) ⟨hcells, hslots⟩ dL_law_1491 (fun E_ w_ ce_ q9_ H locs hq hP hD hS hce hcv hcl => hq.elim) (fun r_ w_ H locs hq hP hD hS => ?_)
  obtain ⟨x, g, V, hq1, rfl, rfl⟩ := hq
  refine lv_istore (lv' := [(5, .int x), (0, .ref b), (1, .ref h), (2, .ref (a6 0)), (3, .ref ao), (4, .int i)]) hx hb dL_law_1494 hl (by decide) rfl (fun ls hl => ?_)
  refine lv_aload_n hx hb dL_law_1496 rfl (lv_at hl 3 rfl) ?_
  refine lw_arg (j := (1 : Int32)) hx hb hX hbl hbA hS hp1 (lv_at hl 1 rfl) (lv_at hl 5 rfl) dL_law_1497 dL_law_1498 dL_law_1500 (by decide) dL_law_1501 dL_law_1502 ?_
  refine lw_arg (j := (2 : Int32)) hx hb hX hbl hbA hS hp2 (lv_at hl 1 rfl) (lv_at hl 5 rfl) dL_law_1503 dL_law_1504 dL_law_1506 (by decide) dL_law_1507 dL_law_1508 ?_
  refine lw_arg (j := (3 : Int32)) hx hb hX hbl hbA hS hp3 (lv_at hl 1 rfl) (lv_at hl 5 rfl) dL_law_1509 dL_law_1510 dL_law_1512 (by decide) dL_law_1513 dL_law_1514 ?_
  refine cWV [] (cT k a6 t) ((V ++ [ouC k ao g]) ++ F) (As := [.int p1, .int p2, .int p3]) (ci := 0) ⟨hx, hb, hml, hown, hts⟩ hOK hz hS hA hP hD hM6 (kX6_ahead hts q2276 rfl rfl ⟨Nat.le_of_ble_eq_true rfl, Nat.le_of_ble_eq_true rfl⟩) 0 rfl rfl rfl hl.1 rfl (lv_room (Nat.le_of_ble_eq_true rfl)) ⟨hcells, hslots⟩ dL_law_1515 (fun r_ w_6 H locs hq hP hD hS => ?_)
  obtain ⟨rfl, rfl⟩ := hq
  have hP : va_P D zCl (cT k a6 t6 ++ ((V ++ [ouC k ao g]) ++ F)) _ := hP
  have hD : va_D (fun q => s.heap.size ≤ q) (cT k a6 t6 ++ ((V ++ [ouC k ao g]) ++ F)) := hD
  refine lv_istore (lv' := [(6, .int r6), (5, .int x), (0, .ref b), (1, .ref h), (2, .ref (a6 0)), (3, .ref ao), (4, .int i)]) hx hb dL_law_1518 hl (by decide) rfl (fun ls hl => ?_)
  refine lv_aload_n hx hb dL_law_1520 rfl (lv_at hl 4 rfl) ?_
  obtain ⟨hth, hge⟩ := hrel _ _ _ hq1
  refine cRV (As := []) (ci := 0) ⟨hx, hb, hml, hown, hts⟩ hOK hz hS (zdropP hP) (mtX6_thrown l D k a6 Z hOK t6 x hth) (kX6_thrown hts q1969 rfl rfl ⟨Nat.le_of_ble_eq_true rfl, Nat.le_of_ble_eq_true rfl⟩) 0 rfl rfl rfl hl.1 rfl (lv_room (Nat.le_of_ble_eq_true rfl)) ⟨(by show cells + mc ≤ 603072; exact hcells), (by show slots + ms ≤ 7190634; exact hslots)⟩ dL_law_1521 ?_
  refine lv_iload hx hb dL_law_1524 (lv_at hl 1 rfl) ?_
  refine lv_icmp_eq (tgt := 1531) hx hb dL_law_1526 (by decide) (fun _ => ?_) (fun c1 => absurd rfl c1)
  refine lv_iload hx hb dL_law_1531 (lv_at hl 1 rfl) ?_
  refine lv_if_ne (tgt := 1548) hx hb dL_law_1533 (by decide) (fun _ => ?_) (fun c2 => ?_)
  · refine lv_goto (tgt := 2965) hx hb dL_law_1548 (by decide) ?_
    exact kk _ _ _ _ _ hq1 hP hD hS _ (lv_sub hl [2, 3, 4, 5, 6] rfl)
  · refine lv_aload_n hx hb dL_law_1536 rfl (lv_at hl 5 rfl) ?_
    refine lv_iconst (v := (0 : Int32)) hx hb dL_law_1537 (by decide) ?_
    refine va_lald hx hb hK hP ((cT k a6 t6).length + V.length) 3 (ouIdx _ _ _ _) rfl out_in dL_law_1538 ?_
    rw [show g (Int32.toNatClampNeg (0 : Int32)) = r6.toInt64 from hge c2]
    refine lv_iload hx hb dL_law_1539 (lv_at hl 0 rfl) ?_
    refine lv_i2l (v := r6.toInt64) hx hb dL_law_1541 rfl ?_
    refine lv_lcmp_same hx hb dL_law_1542 ?_
    refine lv_if_eq (tgt := 1548) hx hb dL_law_1543 (by decide) (fun _ => ?_) (fun c3 => absurd rfl c3)
    refine lv_goto (tgt := 2965) hx hb dL_law_1548 (by decide) ?_
    exact kk _ _ _ _ _ hq1 hP hD hS _ (lv_sub hl [2, 3, 4, 5, 6] rfl)
set_option maxRecDepth 100000 in
theorem cs_both {p : Program} {l : Launch} {e : Env} {s : State} {m : MethodId} {below : List Frame} {meth : Method} {c : Code} {Q : State → Prop} {D : va_G} {k : Nat → ClassId} {Z : zZ} {b L : Nat} {xs : Nat → Int32} (hC : lwC p s m c D k Z b L xs) {a6 : Nat → Nat} {h ao : Nat} {i : Int32} (wo F : va_W) {t t6 : Tw} {fs : List Value} (hws : wo[0]? = some (h, .inr (1, fs))) {rm : Room} {mc ms : Nat} {P1 : Int32 → va_W → Prop} {r6 : Int32} (hrc : rm.cells = mc) (hrs : rm.slots = ms) (hfr : rm.frames + 1 ≤ 8192 ∧ 8 + (2 + 11) + rm.locals ≤ 104096) (hM : CtW l yX1_both cX1_both 2 (some .int) rm Z D zCl wo [.ref h] (PXo P1) mc ms) (hM6 : CtW l yX6_both cX6_both 2 (some .int) rX6_both Z D zCl (cT k a6 t) [.ref (a6 0)] (fun r' w' => r' = some (.int r6) ∧ w' = cT k a6 t6) 0 0) (hrel : ∀ x V, P1 x V → x = r6) {H : Heap} {locs : List Loc} {cells slots : Nat} (hP : va_P D zCl (cT k a6 t ++ (wo ++ F)) H) (hD : va_D (fun q => s.heap.size ≤ q) (cT k a6 t ++ (wo ++ F))) (hS : va_S (fun q => s.heap.size ≤ q) s.heap H locs) (hcells : cells + mc ≤ 603072) (hslots : slots + ms ≤ 7190634) (kk : ∀ x V H locs, P1 x V → va_P D zCl (cT k a6 t6 ++ (V ++ F)) H → va_D (fun q => s.heap.size ≤ q) (cT k a6 t6 ++ (V ++ F)) → va_S (fun q => s.heap.size ≤ q) s.heap H locs → ∀ ls, lv_has ls 7 [(0, .ref b), (1, .ref h), (2, .ref (a6 0)), (3, .ref ao), (4, .int i)] → W p l e room_1 s m #[Value.ref b] below meth c H locs (cells + mc) (slots + ms) Q (F0 m 2965 ls [])) {ls : Array Slot} (hl : lv_has ls 7 [(0, .ref b), (1, .ref h), (2, .ref (a6 0)), (3, .ref ao), (4, .int i)]) : W p l e room_1 s m #[Value.ref b] below meth c H locs cells slots Q (F0 m 1551 ls []) := by
  obtain ⟨hx, hb, hml, hown, hts, hX, hbl, hOK, hz⟩ := hC
  have hK := hOK.1 _ _ _ hz
  have hbA : ¬ (fun q => s.heap.size ≤ q) b := Nat.not_le.mpr hbl
  have hA : ∀ q : Nat, s.heap.size ≤ q → (fun q => s.heap.size ≤ q) q := fun _ h => h
  refine lv_aload_n hx hb dL_law_1551 rfl (lv_at hl 1 rfl) ?_
  refine cWV (cT k a6 t) wo F (As := []) (ci := 1) ⟨hx, hb, hml, hown, hts⟩ hOK hz hS hA hP hD hM (kX1_both hts q422 hrc hrs ⟨(by show rm.frames + 1 ≤ 8192; omega), (by show 8 + (2 + 11) + rm.locals ≤ 104096; omega)⟩) 0 hws rfl rfl hl.1 rfl (lv_room (Nat.le_of_ble_eq_true rfl)) ⟨hcells, hslots⟩ dL_law_1552 (fun r_ w_ H locs hq hP hD hS => ?_)
  obtain ⟨x, hq1, rfl⟩ := hq
  refine lv_aload_n hx hb dL_law_1555 rfl (lv_at hl 2 rfl) ?_
  refine cWV [] (cT k a6 t) (w_ ++ F) (As := []) (ci := 0) ⟨hx, hb, hml, hown, hts⟩ hOK hz hS hA hP hD hM6 (kX6_both hts q2280 rfl rfl ⟨Nat.le_of_ble_eq_true rfl, Nat.le_of_ble_eq_true rfl⟩) 0 rfl rfl rfl hl.1 rfl (lv_room (Nat.le_of_ble_eq_true rfl)) ⟨hcells, hslots⟩ dL_law_1556 (fun r_ w_6 H locs hq hP hD hS => ?_)
  obtain ⟨rfl, rfl⟩ := hq
  have hP : va_P D zCl (cT k a6 t6 ++ (w_ ++ F)) _ := hP
  have hD : va_D (fun q => s.heap.size ≤ q) (cT k a6 t6 ++ (w_ ++ F)) := hD
  have hre := hrel _ _ hq1
  subst hre
  refine lv_icmp_eq (tgt := 2965) hx hb dL_law_1559 (by decide) (fun _ => ?_) (fun c1 => absurd rfl c1)
  exact kk _ _ _ _ hq1 hP hD hS _ hl
set_option maxRecDepth 100000 in
theorem cs_saturdays {p : Program} {l : Launch} {e : Env} {s : State} {m : MethodId} {below : List Frame} {meth : Method} {c : Code} {Q : State → Prop} {D : va_G} {k : Nat → ClassId} {Z : zZ} {b L : Nat} {xs : Nat → Int32} (hC : lwC p s m c D k Z b L xs) {a6 : Nat → Nat} {h ao : Nat} {i : Int32} (wo F : va_W) {t t6 : Tw} {p1 : Int32} (hp1 : sAt xs L i 1 p1) {rm : Room} {mc ms : Nat} {P1 : Int32 → (Nat → Int64) → va_W → Prop} {r6 : Int32} (hrc : rm.cells = mc) (hrs : rm.slots = ms) (hfr : rm.frames + 1 ≤ 8192 ∧ 8 + (4 + 11) + rm.locals ≤ 104096) (hM : CtXH l yX0_saturdays cX0_saturdays 4 (some .int) hhX0_saturdays rm Z D zCl wo [.ref h, .int p1, .ref ao] (PWo k ao P1) (fun _ _ => False) mc ms) (hM6 : CtW l yX6_saturdays cX6_saturdays 4 (some .int) rX6_saturdays Z D zCl (cT k a6 t) [.ref (a6 0), .int p1] (fun r' w' => r' = some (.int r6) ∧ w' = cT k a6 t6) 0 0) (hrel : ∀ x g V, P1 x g V → fX6_thrown t6 = some x ∧ (x = 0 → g0 g = r6.toInt64)) {H : Heap} {locs : List Loc} {cells slots : Nat} (hP : va_P D zCl (cT k a6 t ++ (wo ++ F)) H) (hD : va_D (fun q => s.heap.size ≤ q) (cT k a6 t ++ (wo ++ F))) (hS : va_S (fun q => s.heap.size ≤ q) s.heap H locs) (hcells : cells + mc ≤ 603072) (hslots : slots + ms ≤ 7190634) (kk : ∀ x g V H locs, P1 x g V → va_P D zCl (cT k a6 t6 ++ ((V ++ [ouC k ao g]) ++ F)) H → va_D (fun q => s.heap.size ≤ q) (cT k a6 t6 ++ ((V ++ [ouC k ao g]) ++ F)) → va_S (fun q => s.heap.size ≤ q) s.heap H locs → ∀ ls, lv_has ls 7 [(0, .ref b), (1, .ref h), (2, .ref (a6 0)), (3, .ref ao), (4, .int i)] → W p l e room_1 s m #[Value.ref b] below meth c H locs (cells + mc) (slots + ms) Q (F0 m 2965 ls [])) {ls : Array Slot} (hl : lv_has ls 7 [(0, .ref b), (1, .ref h), (2, .ref (a6 0)), (3, .ref ao), (4, .int i)]) : W p l e room_1 s m #[Value.ref b] below meth c H locs cells slots Q (F0 m 1564 ls []) := by
  obtain ⟨hx, hb, hml, hown, hts, hX, hbl, hOK, hz⟩ := hC
  have hK := hOK.1 _ _ _ hz
  have hbA : ¬ (fun q => s.heap.size ≤ q) b := Nat.not_le.mpr hbl
  have hA : ∀ q : Nat, s.heap.size ≤ q → (fun q => s.heap.size ≤ q) q := fun _ h => h
  refine lv_aload_n hx hb dL_law_1564 rfl (lv_at hl 1 rfl) ?_
  refine lw_arg (j := (1 : Int32)) hx hb hX hbl hbA hS hp1 (lv_at hl 0 rfl) (lv_at hl 4 rfl) dL_law_1565 dL_law_1566 dL_law_1568 (by decide) dL_law_1569 dL_law_1570 ?_
  refine lv_aload_n hx hb dL_law_1571 rfl (lv_at hl 3 rfl) ?_
  refine cXSH (cT k a6 t) wo F (As := [.ref h, .int p1, .ref ao]) ⟨hx, hb, hml, hown, hts⟩ hOK hz hS hA hP hD hM (kX0_saturdays hts q1732 hrc hrs ⟨(by show rm.frames + 1 ≤ 8192; omega), (by show 8 + (4 + 11) + rm.locals ≤ 104096; omega)⟩) rfl hl.1 rfl (lv_room (Nat.le_of_ble_eq_true rfl)) ⟨hcells, hslots⟩ dL_law_1572 (fun E_ w_ ce_ q9_ H locs hq hP hD hS hce hcv hcl => hq.elim) (fun r_ w_ H locs hq hP hD hS => ?_)
  obtain ⟨x, g, V, hq1, rfl, rfl⟩ := hq
  refine lv_istore (lv' := [(5, .int x), (0, .ref b), (1, .ref h), (2, .ref (a6 0)), (3, .ref ao), (4, .int i)]) hx hb dL_law_1575 hl (by decide) rfl (fun ls hl => ?_)
  refine lv_aload_n hx hb dL_law_1577 rfl (lv_at hl 3 rfl) ?_
  refine lw_arg (j := (1 : Int32)) hx hb hX hbl hbA hS hp1 (lv_at hl 1 rfl) (lv_at hl 5 rfl) dL_law_1578 dL_law_1579 dL_law_1581 (by decide) dL_law_1582 dL_law_1583 ?_
  refine cWV [] (cT k a6 t) ((V ++ [ouC k ao g]) ++ F) (As := [.int p1]) (ci := 0) ⟨hx, hb, hml, hown, hts⟩ hOK hz hS hA hP hD hM6 (kX6_saturdays hts q2284 rfl rfl ⟨Nat.le_of_ble_eq_true rfl, Nat.le_of_ble_eq_true rfl⟩) 0 rfl rfl rfl hl.1 rfl (lv_room (Nat.le_of_ble_eq_true rfl)) ⟨hcells, hslots⟩ dL_law_1584 (fun r_ w_6 H locs hq hP hD hS => ?_)
  obtain ⟨rfl, rfl⟩ := hq
  have hP : va_P D zCl (cT k a6 t6 ++ ((V ++ [ouC k ao g]) ++ F)) _ := hP
  have hD : va_D (fun q => s.heap.size ≤ q) (cT k a6 t6 ++ ((V ++ [ouC k ao g]) ++ F)) := hD
  refine lv_istore (lv' := [(6, .int r6), (5, .int x), (0, .ref b), (1, .ref h), (2, .ref (a6 0)), (3, .ref ao), (4, .int i)]) hx hb dL_law_1587 hl (by decide) rfl (fun ls hl => ?_)
  refine lv_aload_n hx hb dL_law_1589 rfl (lv_at hl 4 rfl) ?_
  obtain ⟨hth, hge⟩ := hrel _ _ _ hq1
  refine cRV (As := []) (ci := 0) ⟨hx, hb, hml, hown, hts⟩ hOK hz hS (zdropP hP) (mtX6_thrown l D k a6 Z hOK t6 x hth) (kX6_thrown hts q1969 rfl rfl ⟨Nat.le_of_ble_eq_true rfl, Nat.le_of_ble_eq_true rfl⟩) 0 rfl rfl rfl hl.1 rfl (lv_room (Nat.le_of_ble_eq_true rfl)) ⟨(by show cells + mc ≤ 603072; exact hcells), (by show slots + ms ≤ 7190634; exact hslots)⟩ dL_law_1590 ?_
  refine lv_iload hx hb dL_law_1593 (lv_at hl 1 rfl) ?_
  refine lv_icmp_eq (tgt := 1600) hx hb dL_law_1595 (by decide) (fun _ => ?_) (fun c1 => absurd rfl c1)
  refine lv_iload hx hb dL_law_1600 (lv_at hl 1 rfl) ?_
  refine lv_if_ne (tgt := 1617) hx hb dL_law_1602 (by decide) (fun _ => ?_) (fun c2 => ?_)
  · refine lv_goto (tgt := 2965) hx hb dL_law_1617 (by decide) ?_
    exact kk _ _ _ _ _ hq1 hP hD hS _ (lv_sub hl [2, 3, 4, 5, 6] rfl)
  · refine lv_aload_n hx hb dL_law_1605 rfl (lv_at hl 5 rfl) ?_
    refine lv_iconst (v := (0 : Int32)) hx hb dL_law_1606 (by decide) ?_
    refine va_lald hx hb hK hP ((cT k a6 t6).length + V.length) 3 (ouIdx _ _ _ _) rfl out_in dL_law_1607 ?_
    rw [show g (Int32.toNatClampNeg (0 : Int32)) = r6.toInt64 from hge c2]
    refine lv_iload hx hb dL_law_1608 (lv_at hl 0 rfl) ?_
    refine lv_i2l (v := r6.toInt64) hx hb dL_law_1610 rfl ?_
    refine lv_lcmp_same hx hb dL_law_1611 ?_
    refine lv_if_eq (tgt := 1617) hx hb dL_law_1612 (by decide) (fun _ => ?_) (fun c3 => absurd rfl c3)
    refine lv_goto (tgt := 2965) hx hb dL_law_1617 (by decide) ?_
    exact kk _ _ _ _ _ hq1 hP hD hS _ (lv_sub hl [2, 3, 4, 5, 6] rfl)
set_option maxRecDepth 100000 in
theorem cs_first {p : Program} {l : Launch} {e : Env} {s : State} {m : MethodId} {below : List Frame} {meth : Method} {c : Code} {Q : State → Prop} {D : va_G} {k : Nat → ClassId} {Z : zZ} {b L : Nat} {xs : Nat → Int32} (hC : lwC p s m c D k Z b L xs) {a6 : Nat → Nat} {h ao : Nat} {i : Int32} (wo F : va_W) {t t6 : Tw} {p1 : Int32} (hp1 : sAt xs L i 1 p1) {p2 : Int32} (hp2 : sAt xs L i 2 p2) {rm : Room} {mc ms : Nat} {P1 : Int32 → (Nat → Int64) → va_W → Prop} {r6 : Int32} (hrc : rm.cells = mc) (hrs : rm.slots = ms) (hfr : rm.frames + 1 ≤ 8192 ∧ 8 + (5 + 11) + rm.locals ≤ 104096) (hM : CtXH l yX0_first cX0_first 5 (some .int) hhX0_first rm Z D zCl wo [.ref h, .int p1, .int p2, .ref ao] (PWo k ao P1) (fun _ _ => False) mc ms) (hM6 : CtW l yX6_first cX6_first 6 (some .int) rX6_first Z D zCl (cT k a6 t) [.ref (a6 0), .int p1, .int p2] (fun r' w' => r' = some (.int r6) ∧ w' = cT k a6 t6) 0 0) (hrel : ∀ x g V, P1 x g V → fX6_thrown t6 = some x ∧ (x = 0 → g0 g = r6.toInt64)) {H : Heap} {locs : List Loc} {cells slots : Nat} (hP : va_P D zCl (cT k a6 t ++ (wo ++ F)) H) (hD : va_D (fun q => s.heap.size ≤ q) (cT k a6 t ++ (wo ++ F))) (hS : va_S (fun q => s.heap.size ≤ q) s.heap H locs) (hcells : cells + mc ≤ 603072) (hslots : slots + ms ≤ 7190634) (kk : ∀ x g V H locs, P1 x g V → va_P D zCl (cT k a6 t6 ++ ((V ++ [ouC k ao g]) ++ F)) H → va_D (fun q => s.heap.size ≤ q) (cT k a6 t6 ++ ((V ++ [ouC k ao g]) ++ F)) → va_S (fun q => s.heap.size ≤ q) s.heap H locs → ∀ ls, lv_has ls 7 [(0, .ref b), (1, .ref h), (2, .ref (a6 0)), (3, .ref ao), (4, .int i)] → W p l e room_1 s m #[Value.ref b] below meth c H locs (cells + mc) (slots + ms) Q (F0 m 2965 ls [])) {ls : Array Slot} (hl : lv_has ls 7 [(0, .ref b), (1, .ref h), (2, .ref (a6 0)), (3, .ref ao), (4, .int i)]) : W p l e room_1 s m #[Value.ref b] below meth c H locs cells slots Q (F0 m 1620 ls []) := by
  obtain ⟨hx, hb, hml, hown, hts, hX, hbl, hOK, hz⟩ := hC
  have hK := hOK.1 _ _ _ hz
  have hbA : ¬ (fun q => s.heap.size ≤ q) b := Nat.not_le.mpr hbl
  have hA : ∀ q : Nat, s.heap.size ≤ q → (fun q => s.heap.size ≤ q) q := fun _ h => h
  refine lv_aload_n hx hb dL_law_1620 rfl (lv_at hl 1 rfl) ?_
  refine lw_arg (j := (1 : Int32)) hx hb hX hbl hbA hS hp1 (lv_at hl 0 rfl) (lv_at hl 4 rfl) dL_law_1621 dL_law_1622 dL_law_1624 (by decide) dL_law_1625 dL_law_1626 ?_
  refine lw_arg (j := (2 : Int32)) hx hb hX hbl hbA hS hp2 (lv_at hl 0 rfl) (lv_at hl 4 rfl) dL_law_1627 dL_law_1628 dL_law_1630 (by decide) dL_law_1631 dL_law_1632 ?_
  refine lv_aload_n hx hb dL_law_1633 rfl (lv_at hl 3 rfl) ?_
  refine cXSH (cT k a6 t) wo F (As := [.ref h, .int p1, .int p2, .ref ao]) ⟨hx, hb, hml, hown, hts⟩ hOK hz hS hA hP hD hM (kX0_first hts q1739 hrc hrs ⟨(by show rm.frames + 1 ≤ 8192; omega), (by show 8 + (5 + 11) + rm.locals ≤ 104096; omega)⟩) rfl hl.1 rfl (lv_room (Nat.le_of_ble_eq_true rfl)) ⟨hcells, hslots⟩ dL_law_1634 (fun E_ w_ ce_ q9_ H locs hq hP hD hS hce hcv hcl => hq.elim) (fun r_ w_ H locs hq hP hD hS => ?_)
  obtain ⟨x, g, V, hq1, rfl, rfl⟩ := hq
  refine lv_istore (lv' := [(5, .int x), (0, .ref b), (1, .ref h), (2, .ref (a6 0)), (3, .ref ao), (4, .int i)]) hx hb dL_law_1637 hl (by decide) rfl (fun ls hl => ?_)
  refine lv_aload_n hx hb dL_law_1639 rfl (lv_at hl 3 rfl) ?_
  refine lw_arg (j := (1 : Int32)) hx hb hX hbl hbA hS hp1 (lv_at hl 1 rfl) (lv_at hl 5 rfl) dL_law_1640 dL_law_1641 dL_law_1643 (by decide) dL_law_1644 dL_law_1645 ?_
  refine lw_arg (j := (2 : Int32)) hx hb hX hbl hbA hS hp2 (lv_at hl 1 rfl) (lv_at hl 5 rfl) dL_law_1646 dL_law_1647 dL_law_1649 (by decide) dL_law_1650 dL_law_1651 ?_
  refine cWV [] (cT k a6 t) ((V ++ [ouC k ao g]) ++ F) (As := [.int p1, .int p2]) (ci := 0) ⟨hx, hb, hml, hown, hts⟩ hOK hz hS hA hP hD hM6 (kX6_first hts q2288 rfl rfl ⟨Nat.le_of_ble_eq_true rfl, Nat.le_of_ble_eq_true rfl⟩) 0 rfl rfl rfl hl.1 rfl (lv_room (Nat.le_of_ble_eq_true rfl)) ⟨hcells, hslots⟩ dL_law_1652 (fun r_ w_6 H locs hq hP hD hS => ?_)
  obtain ⟨rfl, rfl⟩ := hq
  have hP : va_P D zCl (cT k a6 t6 ++ ((V ++ [ouC k ao g]) ++ F)) _ := hP
  have hD : va_D (fun q => s.heap.size ≤ q) (cT k a6 t6 ++ ((V ++ [ouC k ao g]) ++ F)) := hD
  refine lv_istore (lv' := [(6, .int r6), (5, .int x), (0, .ref b), (1, .ref h), (2, .ref (a6 0)), (3, .ref ao), (4, .int i)]) hx hb dL_law_1655 hl (by decide) rfl (fun ls hl => ?_)
  refine lv_aload_n hx hb dL_law_1657 rfl (lv_at hl 4 rfl) ?_
  obtain ⟨hth, hge⟩ := hrel _ _ _ hq1
  refine cRV (As := []) (ci := 0) ⟨hx, hb, hml, hown, hts⟩ hOK hz hS (zdropP hP) (mtX6_thrown l D k a6 Z hOK t6 x hth) (kX6_thrown hts q1969 rfl rfl ⟨Nat.le_of_ble_eq_true rfl, Nat.le_of_ble_eq_true rfl⟩) 0 rfl rfl rfl hl.1 rfl (lv_room (Nat.le_of_ble_eq_true rfl)) ⟨(by show cells + mc ≤ 603072; exact hcells), (by show slots + ms ≤ 7190634; exact hslots)⟩ dL_law_1658 ?_
  refine lv_iload hx hb dL_law_1661 (lv_at hl 1 rfl) ?_
  refine lv_icmp_eq (tgt := 1668) hx hb dL_law_1663 (by decide) (fun _ => ?_) (fun c1 => absurd rfl c1)
  refine lv_iload hx hb dL_law_1668 (lv_at hl 1 rfl) ?_
  refine lv_if_ne (tgt := 1685) hx hb dL_law_1670 (by decide) (fun _ => ?_) (fun c2 => ?_)
  · refine lv_goto (tgt := 2965) hx hb dL_law_1685 (by decide) ?_
    exact kk _ _ _ _ _ hq1 hP hD hS _ (lv_sub hl [2, 3, 4, 5, 6] rfl)
  · refine lv_aload_n hx hb dL_law_1673 rfl (lv_at hl 5 rfl) ?_
    refine lv_iconst (v := (0 : Int32)) hx hb dL_law_1674 (by decide) ?_
    refine va_lald hx hb hK hP ((cT k a6 t6).length + V.length) 3 (ouIdx _ _ _ _) rfl out_in dL_law_1675 ?_
    rw [show g (Int32.toNatClampNeg (0 : Int32)) = r6.toInt64 from hge c2]
    refine lv_iload hx hb dL_law_1676 (lv_at hl 0 rfl) ?_
    refine lv_i2l (v := r6.toInt64) hx hb dL_law_1678 rfl ?_
    refine lv_lcmp_same hx hb dL_law_1679 ?_
    refine lv_if_eq (tgt := 1685) hx hb dL_law_1680 (by decide) (fun _ => ?_) (fun c3 => absurd rfl c3)
    refine lv_goto (tgt := 2965) hx hb dL_law_1685 (by decide) ?_
    exact kk _ _ _ _ _ hq1 hP hD hS _ (lv_sub hl [2, 3, 4, 5, 6] rfl)
set_option maxRecDepth 100000 in
theorem cs_gone {p : Program} {l : Launch} {e : Env} {s : State} {m : MethodId} {below : List Frame} {meth : Method} {c : Code} {Q : State → Prop} {D : va_G} {k : Nat → ClassId} {Z : zZ} {b L : Nat} {xs : Nat → Int32} (hC : lwC p s m c D k Z b L xs) {a6 : Nat → Nat} {h ao : Nat} {i : Int32} (wo F : va_W) {t t6 : Tw} {fs : List Value} (hws : wo[0]? = some (h, .inr (1, fs))) {rm : Room} {mc ms : Nat} {P1 : Int32 → va_W → Prop} {r6 : Int32} (hrc : rm.cells = mc) (hrs : rm.slots = ms) (hfr : rm.frames + 1 ≤ 8192 ∧ 8 + (2 + 11) + rm.locals ≤ 104096) (hM : CtW l yX1_gone cX1_gone 2 (some .int) rm Z D zCl wo [.ref h] (PXo P1) mc ms) (hM6 : CtW l yX6_gone cX6_gone 1 (some .int) rX6_gone Z D zCl (cT k a6 t) [.ref (a6 0)] (fun r' w' => r' = some (.int r6) ∧ w' = cT k a6 t6) 0 0) (hrel : ∀ x V, P1 x V → x = r6) {H : Heap} {locs : List Loc} {cells slots : Nat} (hP : va_P D zCl (cT k a6 t ++ (wo ++ F)) H) (hD : va_D (fun q => s.heap.size ≤ q) (cT k a6 t ++ (wo ++ F))) (hS : va_S (fun q => s.heap.size ≤ q) s.heap H locs) (hcells : cells + mc ≤ 603072) (hslots : slots + ms ≤ 7190634) (kk : ∀ x V H locs, P1 x V → va_P D zCl (cT k a6 t6 ++ (V ++ F)) H → va_D (fun q => s.heap.size ≤ q) (cT k a6 t6 ++ (V ++ F)) → va_S (fun q => s.heap.size ≤ q) s.heap H locs → ∀ ls, lv_has ls 7 [(0, .ref b), (1, .ref h), (2, .ref (a6 0)), (3, .ref ao), (4, .int i)] → W p l e room_1 s m #[Value.ref b] below meth c H locs (cells + mc) (slots + ms) Q (F0 m 2965 ls [])) {ls : Array Slot} (hl : lv_has ls 7 [(0, .ref b), (1, .ref h), (2, .ref (a6 0)), (3, .ref ao), (4, .int i)]) : W p l e room_1 s m #[Value.ref b] below meth c H locs cells slots Q (F0 m 1688 ls []) := by
  obtain ⟨hx, hb, hml, hown, hts, hX, hbl, hOK, hz⟩ := hC
  have hK := hOK.1 _ _ _ hz
  have hbA : ¬ (fun q => s.heap.size ≤ q) b := Nat.not_le.mpr hbl
  have hA : ∀ q : Nat, s.heap.size ≤ q → (fun q => s.heap.size ≤ q) q := fun _ h => h
  refine lv_aload_n hx hb dL_law_1688 rfl (lv_at hl 1 rfl) ?_
  refine cWV (cT k a6 t) wo F (As := []) (ci := 1) ⟨hx, hb, hml, hown, hts⟩ hOK hz hS hA hP hD hM (kX1_gone hts q430 hrc hrs ⟨(by show rm.frames + 1 ≤ 8192; omega), (by show 8 + (2 + 11) + rm.locals ≤ 104096; omega)⟩) 0 hws rfl rfl hl.1 rfl (lv_room (Nat.le_of_ble_eq_true rfl)) ⟨hcells, hslots⟩ dL_law_1689 (fun r_ w_ H locs hq hP hD hS => ?_)
  obtain ⟨x, hq1, rfl⟩ := hq
  refine lv_aload_n hx hb dL_law_1692 rfl (lv_at hl 2 rfl) ?_
  refine cWV [] (cT k a6 t) (w_ ++ F) (As := []) (ci := 0) ⟨hx, hb, hml, hown, hts⟩ hOK hz hS hA hP hD hM6 (kX6_gone hts q2292 rfl rfl ⟨Nat.le_of_ble_eq_true rfl, Nat.le_of_ble_eq_true rfl⟩) 0 rfl rfl rfl hl.1 rfl (lv_room (Nat.le_of_ble_eq_true rfl)) ⟨hcells, hslots⟩ dL_law_1693 (fun r_ w_6 H locs hq hP hD hS => ?_)
  obtain ⟨rfl, rfl⟩ := hq
  have hP : va_P D zCl (cT k a6 t6 ++ (w_ ++ F)) _ := hP
  have hD : va_D (fun q => s.heap.size ≤ q) (cT k a6 t6 ++ (w_ ++ F)) := hD
  have hre := hrel _ _ hq1
  subst hre
  refine lv_icmp_eq (tgt := 2965) hx hb dL_law_1696 (by decide) (fun _ => ?_) (fun c1 => absurd rfl c1)
  exact kk _ _ _ _ hq1 hP hD hS _ hl
set_option maxRecDepth 100000 in
theorem cs_stand {p : Program} {l : Launch} {e : Env} {s : State} {m : MethodId} {below : List Frame} {meth : Method} {c : Code} {Q : State → Prop} {D : va_G} {k : Nat → ClassId} {Z : zZ} {b L : Nat} {xs : Nat → Int32} (hC : lwC p s m c D k Z b L xs) {a6 : Nat → Nat} {h ao : Nat} {i : Int32} (wo F : va_W) {t t6 : Tw} {p1 : Int32} (hp1 : sAt xs L i 1 p1) {rm : Room} {mc ms : Nat} {P1 : Int32 → (Nat → Int64) → va_W → Prop} {r6 : Int32} (hrc : rm.cells = mc) (hrs : rm.slots = ms) (hfr : rm.frames + 1 ≤ 8192 ∧ 8 + (4 + 11) + rm.locals ≤ 104096) (hM : CtXH l yX0_stand cX0_stand 4 (some .int) hhX0_stand rm Z D zCl wo [.ref h, .int p1, .ref ao] (PWo k ao P1) (fun _ _ => False) mc ms) (hM6 : CtW l yX6_stand cX6_stand 2 (some .int) rX6_stand Z D zCl (cT k a6 t) [.ref (a6 0), .int p1] (fun r' w' => r' = some (.int r6) ∧ w' = cT k a6 t6) 0 0) (hrel : ∀ x g V, P1 x g V → fX6_thrown t6 = some x ∧ (x = 0 → g0 g = r6.toInt64)) {H : Heap} {locs : List Loc} {cells slots : Nat} (hP : va_P D zCl (cT k a6 t ++ (wo ++ F)) H) (hD : va_D (fun q => s.heap.size ≤ q) (cT k a6 t ++ (wo ++ F))) (hS : va_S (fun q => s.heap.size ≤ q) s.heap H locs) (hcells : cells + mc ≤ 603072) (hslots : slots + ms ≤ 7190634) (kk : ∀ x g V H locs, P1 x g V → va_P D zCl (cT k a6 t6 ++ ((V ++ [ouC k ao g]) ++ F)) H → va_D (fun q => s.heap.size ≤ q) (cT k a6 t6 ++ ((V ++ [ouC k ao g]) ++ F)) → va_S (fun q => s.heap.size ≤ q) s.heap H locs → ∀ ls, lv_has ls 7 [(0, .ref b), (1, .ref h), (2, .ref (a6 0)), (3, .ref ao), (4, .int i)] → W p l e room_1 s m #[Value.ref b] below meth c H locs (cells + mc) (slots + ms) Q (F0 m 2965 ls [])) {ls : Array Slot} (hl : lv_has ls 7 [(0, .ref b), (1, .ref h), (2, .ref (a6 0)), (3, .ref ao), (4, .int i)]) : W p l e room_1 s m #[Value.ref b] below meth c H locs cells slots Q (F0 m 1701 ls []) := by
  obtain ⟨hx, hb, hml, hown, hts, hX, hbl, hOK, hz⟩ := hC
  have hK := hOK.1 _ _ _ hz
  have hbA : ¬ (fun q => s.heap.size ≤ q) b := Nat.not_le.mpr hbl
  have hA : ∀ q : Nat, s.heap.size ≤ q → (fun q => s.heap.size ≤ q) q := fun _ h => h
  refine lv_aload_n hx hb dL_law_1701 rfl (lv_at hl 1 rfl) ?_
  refine lw_arg (j := (1 : Int32)) hx hb hX hbl hbA hS hp1 (lv_at hl 0 rfl) (lv_at hl 4 rfl) dL_law_1702 dL_law_1703 dL_law_1705 (by decide) dL_law_1706 dL_law_1707 ?_
  refine lv_aload_n hx hb dL_law_1708 rfl (lv_at hl 3 rfl) ?_
  refine cXSH (cT k a6 t) wo F (As := [.ref h, .int p1, .ref ao]) ⟨hx, hb, hml, hown, hts⟩ hOK hz hS hA hP hD hM (kX0_stand hts q1746 hrc hrs ⟨(by show rm.frames + 1 ≤ 8192; omega), (by show 8 + (4 + 11) + rm.locals ≤ 104096; omega)⟩) rfl hl.1 rfl (lv_room (Nat.le_of_ble_eq_true rfl)) ⟨hcells, hslots⟩ dL_law_1709 (fun E_ w_ ce_ q9_ H locs hq hP hD hS hce hcv hcl => hq.elim) (fun r_ w_ H locs hq hP hD hS => ?_)
  obtain ⟨x, g, V, hq1, rfl, rfl⟩ := hq
  refine lv_istore (lv' := [(5, .int x), (0, .ref b), (1, .ref h), (2, .ref (a6 0)), (3, .ref ao), (4, .int i)]) hx hb dL_law_1712 hl (by decide) rfl (fun ls hl => ?_)
  refine lv_aload_n hx hb dL_law_1714 rfl (lv_at hl 3 rfl) ?_
  refine lw_arg (j := (1 : Int32)) hx hb hX hbl hbA hS hp1 (lv_at hl 1 rfl) (lv_at hl 5 rfl) dL_law_1715 dL_law_1716 dL_law_1718 (by decide) dL_law_1719 dL_law_1720 ?_
  refine cWV [] (cT k a6 t) ((V ++ [ouC k ao g]) ++ F) (As := [.int p1]) (ci := 0) ⟨hx, hb, hml, hown, hts⟩ hOK hz hS hA hP hD hM6 (kX6_stand hts q2300 rfl rfl ⟨Nat.le_of_ble_eq_true rfl, Nat.le_of_ble_eq_true rfl⟩) 0 rfl rfl rfl hl.1 rfl (lv_room (Nat.le_of_ble_eq_true rfl)) ⟨hcells, hslots⟩ dL_law_1721 (fun r_ w_6 H locs hq hP hD hS => ?_)
  obtain ⟨rfl, rfl⟩ := hq
  have hP : va_P D zCl (cT k a6 t6 ++ ((V ++ [ouC k ao g]) ++ F)) _ := hP
  have hD : va_D (fun q => s.heap.size ≤ q) (cT k a6 t6 ++ ((V ++ [ouC k ao g]) ++ F)) := hD
  refine lv_istore (lv' := [(6, .int r6), (5, .int x), (0, .ref b), (1, .ref h), (2, .ref (a6 0)), (3, .ref ao), (4, .int i)]) hx hb dL_law_1724 hl (by decide) rfl (fun ls hl => ?_)
  refine lv_aload_n hx hb dL_law_1726 rfl (lv_at hl 4 rfl) ?_
  obtain ⟨hth, hge⟩ := hrel _ _ _ hq1
  refine cRV (As := []) (ci := 0) ⟨hx, hb, hml, hown, hts⟩ hOK hz hS (zdropP hP) (mtX6_thrown l D k a6 Z hOK t6 x hth) (kX6_thrown hts q1969 rfl rfl ⟨Nat.le_of_ble_eq_true rfl, Nat.le_of_ble_eq_true rfl⟩) 0 rfl rfl rfl hl.1 rfl (lv_room (Nat.le_of_ble_eq_true rfl)) ⟨(by show cells + mc ≤ 603072; exact hcells), (by show slots + ms ≤ 7190634; exact hslots)⟩ dL_law_1727 ?_
  refine lv_iload hx hb dL_law_1730 (lv_at hl 1 rfl) ?_
  refine lv_icmp_eq (tgt := 1737) hx hb dL_law_1732 (by decide) (fun _ => ?_) (fun c1 => absurd rfl c1)
  refine lv_iload hx hb dL_law_1737 (lv_at hl 1 rfl) ?_
  refine lv_if_ne (tgt := 1754) hx hb dL_law_1739 (by decide) (fun _ => ?_) (fun c2 => ?_)
  · refine lv_goto (tgt := 2965) hx hb dL_law_1754 (by decide) ?_
    exact kk _ _ _ _ _ hq1 hP hD hS _ (lv_sub hl [2, 3, 4, 5, 6] rfl)
  · refine lv_aload_n hx hb dL_law_1742 rfl (lv_at hl 5 rfl) ?_
    refine lv_iconst (v := (0 : Int32)) hx hb dL_law_1743 (by decide) ?_
    refine va_lald hx hb hK hP ((cT k a6 t6).length + V.length) 3 (ouIdx _ _ _ _) rfl out_in dL_law_1744 ?_
    rw [show g (Int32.toNatClampNeg (0 : Int32)) = r6.toInt64 from hge c2]
    refine lv_iload hx hb dL_law_1745 (lv_at hl 0 rfl) ?_
    refine lv_i2l (v := r6.toInt64) hx hb dL_law_1747 rfl ?_
    refine lv_lcmp_same hx hb dL_law_1748 ?_
    refine lv_if_eq (tgt := 1754) hx hb dL_law_1749 (by decide) (fun _ => ?_) (fun c3 => absurd rfl c3)
    refine lv_goto (tgt := 2965) hx hb dL_law_1754 (by decide) ?_
    exact kk _ _ _ _ _ hq1 hP hD hS _ (lv_sub hl [2, 3, 4, 5, 6] rfl)
set_option maxRecDepth 100000 in
theorem cs_odds {p : Program} {l : Launch} {e : Env} {s : State} {m : MethodId} {below : List Frame} {meth : Method} {c : Code} {Q : State → Prop} {D : va_G} {k : Nat → ClassId} {Z : zZ} {b L : Nat} {xs : Nat → Int32} (hC : lwC p s m c D k Z b L xs) {a6 : Nat → Nat} {h ao : Nat} {i : Int32} (wo F : va_W) {t t6 : Tw} {fs : List Value} (hws : wo[0]? = some (h, .inr (1, fs))) {rm : Room} {mc ms : Nat} {P1 : Int32 → va_W → Prop} {r6 : Int32} (hrc : rm.cells = mc) (hrs : rm.slots = ms) (hfr : rm.frames + 1 ≤ 8192 ∧ 8 + (1 + 11) + rm.locals ≤ 104096) (hM : CtW l yX1_odds cX1_odds 1 (some .int) rm Z D zCl wo [.ref h] (PXo P1) mc ms) (hM6 : CtW l yX6_odds cX6_odds 1 (some .int) rX6_odds Z D zCl (cT k a6 t) [.ref (a6 0)] (fun r' w' => r' = some (.int r6) ∧ w' = cT k a6 t6) 0 0) (hrel : ∀ x V, P1 x V → x = r6) {H : Heap} {locs : List Loc} {cells slots : Nat} (hP : va_P D zCl (cT k a6 t ++ (wo ++ F)) H) (hD : va_D (fun q => s.heap.size ≤ q) (cT k a6 t ++ (wo ++ F))) (hS : va_S (fun q => s.heap.size ≤ q) s.heap H locs) (hcells : cells + mc ≤ 603072) (hslots : slots + ms ≤ 7190634) (kk : ∀ x V H locs, P1 x V → va_P D zCl (cT k a6 t6 ++ (V ++ F)) H → va_D (fun q => s.heap.size ≤ q) (cT k a6 t6 ++ (V ++ F)) → va_S (fun q => s.heap.size ≤ q) s.heap H locs → ∀ ls, lv_has ls 7 [(0, .ref b), (1, .ref h), (2, .ref (a6 0)), (3, .ref ao), (4, .int i)] → W p l e room_1 s m #[Value.ref b] below meth c H locs (cells + mc) (slots + ms) Q (F0 m 2965 ls [])) {ls : Array Slot} (hl : lv_has ls 7 [(0, .ref b), (1, .ref h), (2, .ref (a6 0)), (3, .ref ao), (4, .int i)]) : W p l e room_1 s m #[Value.ref b] below meth c H locs cells slots Q (F0 m 1757 ls []) := by
  obtain ⟨hx, hb, hml, hown, hts, hX, hbl, hOK, hz⟩ := hC
  have hK := hOK.1 _ _ _ hz
  have hbA : ¬ (fun q => s.heap.size ≤ q) b := Nat.not_le.mpr hbl
  have hA : ∀ q : Nat, s.heap.size ≤ q → (fun q => s.heap.size ≤ q) q := fun _ h => h
  refine lv_aload_n hx hb dL_law_1757 rfl (lv_at hl 1 rfl) ?_
  refine cWV (cT k a6 t) wo F (As := []) (ci := 1) ⟨hx, hb, hml, hown, hts⟩ hOK hz hS hA hP hD hM (kX1_odds hts q563 hrc hrs ⟨(by show rm.frames + 1 ≤ 8192; omega), (by show 8 + (1 + 11) + rm.locals ≤ 104096; omega)⟩) 0 hws rfl rfl hl.1 rfl (lv_room (Nat.le_of_ble_eq_true rfl)) ⟨hcells, hslots⟩ dL_law_1758 (fun r_ w_ H locs hq hP hD hS => ?_)
  obtain ⟨x, hq1, rfl⟩ := hq
  refine lv_aload_n hx hb dL_law_1761 rfl (lv_at hl 2 rfl) ?_
  refine cWV [] (cT k a6 t) (w_ ++ F) (As := []) (ci := 0) ⟨hx, hb, hml, hown, hts⟩ hOK hz hS hA hP hD hM6 (kX6_odds hts q2304 rfl rfl ⟨Nat.le_of_ble_eq_true rfl, Nat.le_of_ble_eq_true rfl⟩) 0 rfl rfl rfl hl.1 rfl (lv_room (Nat.le_of_ble_eq_true rfl)) ⟨hcells, hslots⟩ dL_law_1762 (fun r_ w_6 H locs hq hP hD hS => ?_)
  obtain ⟨rfl, rfl⟩ := hq
  have hP : va_P D zCl (cT k a6 t6 ++ (w_ ++ F)) _ := hP
  have hD : va_D (fun q => s.heap.size ≤ q) (cT k a6 t6 ++ (w_ ++ F)) := hD
  have hre := hrel _ _ hq1
  subst hre
  refine lv_icmp_eq (tgt := 2965) hx hb dL_law_1765 (by decide) (fun _ => ?_) (fun c1 => absurd rfl c1)
  exact kk _ _ _ _ hq1 hP hD hS _ hl
set_option maxRecDepth 100000 in
theorem cs_send {p : Program} {l : Launch} {e : Env} {s : State} {m : MethodId} {below : List Frame} {meth : Method} {c : Code} {Q : State → Prop} {D : va_G} {k : Nat → ClassId} {Z : zZ} {b L : Nat} {xs : Nat → Int32} (hC : lwC p s m c D k Z b L xs) {a6 : Nat → Nat} {h ao : Nat} {i : Int32} (wo F : va_W) {t t6 : Tw} {fs : List Value} (hws : wo[0]? = some (h, .inr (1, fs))) {rm : Room} {mc ms : Nat} {P1 : Int32 → va_W → Prop} {r6 : Int32} (hrc : rm.cells = mc) (hrs : rm.slots = ms) (hfr : rm.frames + 1 ≤ 8192 ∧ 8 + (1 + 11) + rm.locals ≤ 104096) (hM : CtW l yX1_send cX1_send 1 (some .int) rm Z D zCl wo [.ref h] (PXo P1) mc ms) (hM6 : CtW l yX6_send cX6_send 1 (some .int) rX6_send Z D zCl (cT k a6 t) [.ref (a6 0)] (fun r' w' => r' = some (.int r6) ∧ w' = cT k a6 t6) 0 0) (hrel : ∀ x V, P1 x V → x = r6) {H : Heap} {locs : List Loc} {cells slots : Nat} (hP : va_P D zCl (cT k a6 t ++ (wo ++ F)) H) (hD : va_D (fun q => s.heap.size ≤ q) (cT k a6 t ++ (wo ++ F))) (hS : va_S (fun q => s.heap.size ≤ q) s.heap H locs) (hcells : cells + mc ≤ 603072) (hslots : slots + ms ≤ 7190634) (kk : ∀ x V H locs, P1 x V → va_P D zCl (cT k a6 t6 ++ (V ++ F)) H → va_D (fun q => s.heap.size ≤ q) (cT k a6 t6 ++ (V ++ F)) → va_S (fun q => s.heap.size ≤ q) s.heap H locs → ∀ ls, lv_has ls 7 [(0, .ref b), (1, .ref h), (2, .ref (a6 0)), (3, .ref ao), (4, .int i)] → W p l e room_1 s m #[Value.ref b] below meth c H locs (cells + mc) (slots + ms) Q (F0 m 2965 ls [])) {ls : Array Slot} (hl : lv_has ls 7 [(0, .ref b), (1, .ref h), (2, .ref (a6 0)), (3, .ref ao), (4, .int i)]) : W p l e room_1 s m #[Value.ref b] below meth c H locs cells slots Q (F0 m 1770 ls []) := by
  obtain ⟨hx, hb, hml, hown, hts, hX, hbl, hOK, hz⟩ := hC
  have hK := hOK.1 _ _ _ hz
  have hbA : ¬ (fun q => s.heap.size ≤ q) b := Nat.not_le.mpr hbl
  have hA : ∀ q : Nat, s.heap.size ≤ q → (fun q => s.heap.size ≤ q) q := fun _ h => h
  refine lv_aload_n hx hb dL_law_1770 rfl (lv_at hl 1 rfl) ?_
  refine cWV (cT k a6 t) wo F (As := []) (ci := 1) ⟨hx, hb, hml, hown, hts⟩ hOK hz hS hA hP hD hM (kX1_send hts q593 hrc hrs ⟨(by show rm.frames + 1 ≤ 8192; omega), (by show 8 + (1 + 11) + rm.locals ≤ 104096; omega)⟩) 0 hws rfl rfl hl.1 rfl (lv_room (Nat.le_of_ble_eq_true rfl)) ⟨hcells, hslots⟩ dL_law_1771 (fun r_ w_ H locs hq hP hD hS => ?_)
  obtain ⟨x, hq1, rfl⟩ := hq
  refine lv_aload_n hx hb dL_law_1774 rfl (lv_at hl 2 rfl) ?_
  refine cWV [] (cT k a6 t) (w_ ++ F) (As := []) (ci := 0) ⟨hx, hb, hml, hown, hts⟩ hOK hz hS hA hP hD hM6 (kX6_send hts q2314 rfl rfl ⟨Nat.le_of_ble_eq_true rfl, Nat.le_of_ble_eq_true rfl⟩) 0 rfl rfl rfl hl.1 rfl (lv_room (Nat.le_of_ble_eq_true rfl)) ⟨hcells, hslots⟩ dL_law_1775 (fun r_ w_6 H locs hq hP hD hS => ?_)
  obtain ⟨rfl, rfl⟩ := hq
  have hP : va_P D zCl (cT k a6 t6 ++ (w_ ++ F)) _ := hP
  have hD : va_D (fun q => s.heap.size ≤ q) (cT k a6 t6 ++ (w_ ++ F)) := hD
  have hre := hrel _ _ hq1
  subst hre
  refine lv_icmp_eq (tgt := 2965) hx hb dL_law_1778 (by decide) (fun _ => ?_) (fun c1 => absurd rfl c1)
  exact kk _ _ _ _ hq1 hP hD hS _ hl
set_option maxRecDepth 100000 in
theorem cs_sent {p : Program} {l : Launch} {e : Env} {s : State} {m : MethodId} {below : List Frame} {meth : Method} {c : Code} {Q : State → Prop} {D : va_G} {k : Nat → ClassId} {Z : zZ} {b L : Nat} {xs : Nat → Int32} (hC : lwC p s m c D k Z b L xs) {a6 : Nat → Nat} {h ao : Nat} {i : Int32} (wo F : va_W) {t t6 : Tw} {p1 : Int32} (hp1 : sAt xs L i 1 p1) {rm : Room} {mc ms : Nat} {P1 : Int32 → (Nat → Int64) → va_W → Prop} {r6 : Int32} (hrc : rm.cells = mc) (hrs : rm.slots = ms) (hfr : rm.frames + 1 ≤ 8192 ∧ 8 + (4 + 11) + rm.locals ≤ 104096) (hM : CtXH l yX0_sent cX0_sent 4 (some .int) hhX0_sent rm Z D zCl wo [.ref h, .int p1, .ref ao] (PWo k ao P1) (fun _ _ => False) mc ms) (hM6 : CtW l yX6_sent cX6_sent 7 (some .int) rX6_sent Z D zCl (cT k a6 t) [.ref (a6 0), .int p1] (fun r' w' => r' = some (.int r6) ∧ w' = cT k a6 t6) 0 0) (hrel : ∀ x g V, P1 x g V → fX6_thrown t6 = some x ∧ (x = 0 → g0 g = r6.toInt64)) {H : Heap} {locs : List Loc} {cells slots : Nat} (hP : va_P D zCl (cT k a6 t ++ (wo ++ F)) H) (hD : va_D (fun q => s.heap.size ≤ q) (cT k a6 t ++ (wo ++ F))) (hS : va_S (fun q => s.heap.size ≤ q) s.heap H locs) (hcells : cells + mc ≤ 603072) (hslots : slots + ms ≤ 7190634) (kk : ∀ x g V H locs, P1 x g V → va_P D zCl (cT k a6 t6 ++ ((V ++ [ouC k ao g]) ++ F)) H → va_D (fun q => s.heap.size ≤ q) (cT k a6 t6 ++ ((V ++ [ouC k ao g]) ++ F)) → va_S (fun q => s.heap.size ≤ q) s.heap H locs → ∀ ls, lv_has ls 7 [(0, .ref b), (1, .ref h), (2, .ref (a6 0)), (3, .ref ao), (4, .int i)] → W p l e room_1 s m #[Value.ref b] below meth c H locs (cells + mc) (slots + ms) Q (F0 m 2965 ls [])) {ls : Array Slot} (hl : lv_has ls 7 [(0, .ref b), (1, .ref h), (2, .ref (a6 0)), (3, .ref ao), (4, .int i)]) : W p l e room_1 s m #[Value.ref b] below meth c H locs cells slots Q (F0 m 1783 ls []) := by
  obtain ⟨hx, hb, hml, hown, hts, hX, hbl, hOK, hz⟩ := hC
  have hK := hOK.1 _ _ _ hz
  have hbA : ¬ (fun q => s.heap.size ≤ q) b := Nat.not_le.mpr hbl
  have hA : ∀ q : Nat, s.heap.size ≤ q → (fun q => s.heap.size ≤ q) q := fun _ h => h
  refine lv_aload_n hx hb dL_law_1783 rfl (lv_at hl 1 rfl) ?_
  refine lw_arg (j := (1 : Int32)) hx hb hX hbl hbA hS hp1 (lv_at hl 0 rfl) (lv_at hl 4 rfl) dL_law_1784 dL_law_1785 dL_law_1787 (by decide) dL_law_1788 dL_law_1789 ?_
  refine lv_aload_n hx hb dL_law_1790 rfl (lv_at hl 3 rfl) ?_
  refine cXSH (cT k a6 t) wo F (As := [.ref h, .int p1, .ref ao]) ⟨hx, hb, hml, hown, hts⟩ hOK hz hS hA hP hD hM (kX0_sent hts q1753 hrc hrs ⟨(by show rm.frames + 1 ≤ 8192; omega), (by show 8 + (4 + 11) + rm.locals ≤ 104096; omega)⟩) rfl hl.1 rfl (lv_room (Nat.le_of_ble_eq_true rfl)) ⟨hcells, hslots⟩ dL_law_1791 (fun E_ w_ ce_ q9_ H locs hq hP hD hS hce hcv hcl => hq.elim) (fun r_ w_ H locs hq hP hD hS => ?_)
  obtain ⟨x, g, V, hq1, rfl, rfl⟩ := hq
  refine lv_istore (lv' := [(5, .int x), (0, .ref b), (1, .ref h), (2, .ref (a6 0)), (3, .ref ao), (4, .int i)]) hx hb dL_law_1794 hl (by decide) rfl (fun ls hl => ?_)
  refine lv_aload_n hx hb dL_law_1796 rfl (lv_at hl 3 rfl) ?_
  refine lw_arg (j := (1 : Int32)) hx hb hX hbl hbA hS hp1 (lv_at hl 1 rfl) (lv_at hl 5 rfl) dL_law_1797 dL_law_1798 dL_law_1800 (by decide) dL_law_1801 dL_law_1802 ?_
  refine cWV [] (cT k a6 t) ((V ++ [ouC k ao g]) ++ F) (As := [.int p1]) (ci := 0) ⟨hx, hb, hml, hown, hts⟩ hOK hz hS hA hP hD hM6 (kX6_sent hts q2318 rfl rfl ⟨Nat.le_of_ble_eq_true rfl, Nat.le_of_ble_eq_true rfl⟩) 0 rfl rfl rfl hl.1 rfl (lv_room (Nat.le_of_ble_eq_true rfl)) ⟨hcells, hslots⟩ dL_law_1803 (fun r_ w_6 H locs hq hP hD hS => ?_)
  obtain ⟨rfl, rfl⟩ := hq
  have hP : va_P D zCl (cT k a6 t6 ++ ((V ++ [ouC k ao g]) ++ F)) _ := hP
  have hD : va_D (fun q => s.heap.size ≤ q) (cT k a6 t6 ++ ((V ++ [ouC k ao g]) ++ F)) := hD
  refine lv_istore (lv' := [(6, .int r6), (5, .int x), (0, .ref b), (1, .ref h), (2, .ref (a6 0)), (3, .ref ao), (4, .int i)]) hx hb dL_law_1806 hl (by decide) rfl (fun ls hl => ?_)
  refine lv_aload_n hx hb dL_law_1808 rfl (lv_at hl 4 rfl) ?_
  obtain ⟨hth, hge⟩ := hrel _ _ _ hq1
  refine cRV (As := []) (ci := 0) ⟨hx, hb, hml, hown, hts⟩ hOK hz hS (zdropP hP) (mtX6_thrown l D k a6 Z hOK t6 x hth) (kX6_thrown hts q1969 rfl rfl ⟨Nat.le_of_ble_eq_true rfl, Nat.le_of_ble_eq_true rfl⟩) 0 rfl rfl rfl hl.1 rfl (lv_room (Nat.le_of_ble_eq_true rfl)) ⟨(by show cells + mc ≤ 603072; exact hcells), (by show slots + ms ≤ 7190634; exact hslots)⟩ dL_law_1809 ?_
  refine lv_iload hx hb dL_law_1812 (lv_at hl 1 rfl) ?_
  refine lv_icmp_eq (tgt := 1819) hx hb dL_law_1814 (by decide) (fun _ => ?_) (fun c1 => absurd rfl c1)
  refine lv_iload hx hb dL_law_1819 (lv_at hl 1 rfl) ?_
  refine lv_if_ne (tgt := 1836) hx hb dL_law_1821 (by decide) (fun _ => ?_) (fun c2 => ?_)
  · refine lv_goto (tgt := 2965) hx hb dL_law_1836 (by decide) ?_
    exact kk _ _ _ _ _ hq1 hP hD hS _ (lv_sub hl [2, 3, 4, 5, 6] rfl)
  · refine lv_aload_n hx hb dL_law_1824 rfl (lv_at hl 5 rfl) ?_
    refine lv_iconst (v := (0 : Int32)) hx hb dL_law_1825 (by decide) ?_
    refine va_lald hx hb hK hP ((cT k a6 t6).length + V.length) 3 (ouIdx _ _ _ _) rfl out_in dL_law_1826 ?_
    rw [show g (Int32.toNatClampNeg (0 : Int32)) = r6.toInt64 from hge c2]
    refine lv_iload hx hb dL_law_1827 (lv_at hl 0 rfl) ?_
    refine lv_i2l (v := r6.toInt64) hx hb dL_law_1829 rfl ?_
    refine lv_lcmp_same hx hb dL_law_1830 ?_
    refine lv_if_eq (tgt := 1836) hx hb dL_law_1831 (by decide) (fun _ => ?_) (fun c3 => absurd rfl c3)
    refine lv_goto (tgt := 2965) hx hb dL_law_1836 (by decide) ?_
    exact kk _ _ _ _ _ hq1 hP hD hS _ (lv_sub hl [2, 3, 4, 5, 6] rfl)
set_option maxRecDepth 100000 in
theorem cs_mend {p : Program} {l : Launch} {e : Env} {s : State} {m : MethodId} {below : List Frame} {meth : Method} {c : Code} {Q : State → Prop} {D : va_G} {k : Nat → ClassId} {Z : zZ} {b L : Nat} {xs : Nat → Int32} (hC : lwC p s m c D k Z b L xs) {a6 : Nat → Nat} {h ao : Nat} {i : Int32} (wo F : va_W) {t t6 : Tw} {fs : List Value} (hws : wo[0]? = some (h, .inr (1, fs))) {rm : Room} {mc ms : Nat} {P1 : Int32 → va_W → Prop} {r6 : Int32} (hrc : rm.cells = mc) (hrs : rm.slots = ms) (hfr : rm.frames + 1 ≤ 8192 ∧ 8 + (3 + 11) + rm.locals ≤ 104096) (hM : CtW l yX1_mend cX1_mend 3 (some .int) rm Z D zCl wo [.ref h] (PXo P1) mc ms) (hM6 : CtW l yX6_mend cX6_mend 3 (some .int) rX6_mend Z D zCl (cT k a6 t) [.ref (a6 0)] (fun r' w' => r' = some (.int r6) ∧ w' = cT k a6 t6) 0 0) (hrel : ∀ x V, P1 x V → x = r6) {H : Heap} {locs : List Loc} {cells slots : Nat} (hP : va_P D zCl (cT k a6 t ++ (wo ++ F)) H) (hD : va_D (fun q => s.heap.size ≤ q) (cT k a6 t ++ (wo ++ F))) (hS : va_S (fun q => s.heap.size ≤ q) s.heap H locs) (hcells : cells + mc ≤ 603072) (hslots : slots + ms ≤ 7190634) (kk : ∀ x V H locs, P1 x V → va_P D zCl (cT k a6 t6 ++ (V ++ F)) H → va_D (fun q => s.heap.size ≤ q) (cT k a6 t6 ++ (V ++ F)) → va_S (fun q => s.heap.size ≤ q) s.heap H locs → ∀ ls, lv_has ls 7 [(0, .ref b), (1, .ref h), (2, .ref (a6 0)), (3, .ref ao), (4, .int i)] → W p l e room_1 s m #[Value.ref b] below meth c H locs (cells + mc) (slots + ms) Q (F0 m 2965 ls [])) {ls : Array Slot} (hl : lv_has ls 7 [(0, .ref b), (1, .ref h), (2, .ref (a6 0)), (3, .ref ao), (4, .int i)]) : W p l e room_1 s m #[Value.ref b] below meth c H locs cells slots Q (F0 m 1839 ls []) := by
  obtain ⟨hx, hb, hml, hown, hts, hX, hbl, hOK, hz⟩ := hC
  have hK := hOK.1 _ _ _ hz
  have hbA : ¬ (fun q => s.heap.size ≤ q) b := Nat.not_le.mpr hbl
  have hA : ∀ q : Nat, s.heap.size ≤ q → (fun q => s.heap.size ≤ q) q := fun _ h => h
  refine lv_aload_n hx hb dL_law_1839 rfl (lv_at hl 1 rfl) ?_
  refine cWV (cT k a6 t) wo F (As := []) (ci := 1) ⟨hx, hb, hml, hown, hts⟩ hOK hz hS hA hP hD hM (kX1_mend hts q597 hrc hrs ⟨(by show rm.frames + 1 ≤ 8192; omega), (by show 8 + (3 + 11) + rm.locals ≤ 104096; omega)⟩) 0 hws rfl rfl hl.1 rfl (lv_room (Nat.le_of_ble_eq_true rfl)) ⟨hcells, hslots⟩ dL_law_1840 (fun r_ w_ H locs hq hP hD hS => ?_)
  obtain ⟨x, hq1, rfl⟩ := hq
  refine lv_aload_n hx hb dL_law_1843 rfl (lv_at hl 2 rfl) ?_
  refine cWV [] (cT k a6 t) (w_ ++ F) (As := []) (ci := 0) ⟨hx, hb, hml, hown, hts⟩ hOK hz hS hA hP hD hM6 (kX6_mend hts q2322 rfl rfl ⟨Nat.le_of_ble_eq_true rfl, Nat.le_of_ble_eq_true rfl⟩) 0 rfl rfl rfl hl.1 rfl (lv_room (Nat.le_of_ble_eq_true rfl)) ⟨hcells, hslots⟩ dL_law_1844 (fun r_ w_6 H locs hq hP hD hS => ?_)
  obtain ⟨rfl, rfl⟩ := hq
  have hP : va_P D zCl (cT k a6 t6 ++ (w_ ++ F)) _ := hP
  have hD : va_D (fun q => s.heap.size ≤ q) (cT k a6 t6 ++ (w_ ++ F)) := hD
  have hre := hrel _ _ hq1
  subst hre
  refine lv_icmp_eq (tgt := 2965) hx hb dL_law_1847 (by decide) (fun _ => ?_) (fun c1 => absurd rfl c1)
  exact kk _ _ _ _ hq1 hP hD hS _ hl
set_option maxRecDepth 100000 in
theorem cs_shut {p : Program} {l : Launch} {e : Env} {s : State} {m : MethodId} {below : List Frame} {meth : Method} {c : Code} {Q : State → Prop} {D : va_G} {k : Nat → ClassId} {Z : zZ} {b L : Nat} {xs : Nat → Int32} (hC : lwC p s m c D k Z b L xs) {a6 : Nat → Nat} {h ao : Nat} {i : Int32} (wo F : va_W) {t t6 : Tw} {fs : List Value} (hws : wo[0]? = some (h, .inr (1, fs))) {rm : Room} {mc ms : Nat} {P1 : Int32 → va_W → Prop} {r6 : Int32} (hrc : rm.cells = mc) (hrs : rm.slots = ms) (hfr : rm.frames + 1 ≤ 8192 ∧ 8 + (3 + 11) + rm.locals ≤ 104096) (hM : CtW l yX1_shut cX1_shut 3 (some .int) rm Z D zCl wo [.ref h] (PXo P1) mc ms) (hM6 : CtW l yX6_shut cX6_shut 3 (some .int) rX6_shut Z D zCl (cT k a6 t) [.ref (a6 0)] (fun r' w' => r' = some (.int r6) ∧ w' = cT k a6 t6) 0 0) (hrel : ∀ x V, P1 x V → x = r6) {H : Heap} {locs : List Loc} {cells slots : Nat} (hP : va_P D zCl (cT k a6 t ++ (wo ++ F)) H) (hD : va_D (fun q => s.heap.size ≤ q) (cT k a6 t ++ (wo ++ F))) (hS : va_S (fun q => s.heap.size ≤ q) s.heap H locs) (hcells : cells + mc ≤ 603072) (hslots : slots + ms ≤ 7190634) (kk : ∀ x V H locs, P1 x V → va_P D zCl (cT k a6 t6 ++ (V ++ F)) H → va_D (fun q => s.heap.size ≤ q) (cT k a6 t6 ++ (V ++ F)) → va_S (fun q => s.heap.size ≤ q) s.heap H locs → ∀ ls, lv_has ls 7 [(0, .ref b), (1, .ref h), (2, .ref (a6 0)), (3, .ref ao), (4, .int i)] → W p l e room_1 s m #[Value.ref b] below meth c H locs (cells + mc) (slots + ms) Q (F0 m 2965 ls [])) {ls : Array Slot} (hl : lv_has ls 7 [(0, .ref b), (1, .ref h), (2, .ref (a6 0)), (3, .ref ao), (4, .int i)]) : W p l e room_1 s m #[Value.ref b] below meth c H locs cells slots Q (F0 m 1852 ls []) := by
  obtain ⟨hx, hb, hml, hown, hts, hX, hbl, hOK, hz⟩ := hC
  have hK := hOK.1 _ _ _ hz
  have hbA : ¬ (fun q => s.heap.size ≤ q) b := Nat.not_le.mpr hbl
  have hA : ∀ q : Nat, s.heap.size ≤ q → (fun q => s.heap.size ≤ q) q := fun _ h => h
  refine lv_aload_n hx hb dL_law_1852 rfl (lv_at hl 1 rfl) ?_
  refine cWV (cT k a6 t) wo F (As := []) (ci := 1) ⟨hx, hb, hml, hown, hts⟩ hOK hz hS hA hP hD hM (kX1_shut hts q605 hrc hrs ⟨(by show rm.frames + 1 ≤ 8192; omega), (by show 8 + (3 + 11) + rm.locals ≤ 104096; omega)⟩) 0 hws rfl rfl hl.1 rfl (lv_room (Nat.le_of_ble_eq_true rfl)) ⟨hcells, hslots⟩ dL_law_1853 (fun r_ w_ H locs hq hP hD hS => ?_)
  obtain ⟨x, hq1, rfl⟩ := hq
  refine lv_aload_n hx hb dL_law_1856 rfl (lv_at hl 2 rfl) ?_
  refine cWV [] (cT k a6 t) (w_ ++ F) (As := []) (ci := 0) ⟨hx, hb, hml, hown, hts⟩ hOK hz hS hA hP hD hM6 (kX6_shut hts q2326 rfl rfl ⟨Nat.le_of_ble_eq_true rfl, Nat.le_of_ble_eq_true rfl⟩) 0 rfl rfl rfl hl.1 rfl (lv_room (Nat.le_of_ble_eq_true rfl)) ⟨hcells, hslots⟩ dL_law_1857 (fun r_ w_6 H locs hq hP hD hS => ?_)
  obtain ⟨rfl, rfl⟩ := hq
  have hP : va_P D zCl (cT k a6 t6 ++ (w_ ++ F)) _ := hP
  have hD : va_D (fun q => s.heap.size ≤ q) (cT k a6 t6 ++ (w_ ++ F)) := hD
  have hre := hrel _ _ hq1
  subst hre
  refine lv_icmp_eq (tgt := 2965) hx hb dL_law_1860 (by decide) (fun _ => ?_) (fun c1 => absurd rfl c1)
  exact kk _ _ _ _ hq1 hP hD hS _ hl
set_option maxRecDepth 100000 in
theorem cs_quiet {p : Program} {l : Launch} {e : Env} {s : State} {m : MethodId} {below : List Frame} {meth : Method} {c : Code} {Q : State → Prop} {D : va_G} {k : Nat → ClassId} {Z : zZ} {b L : Nat} {xs : Nat → Int32} (hC : lwC p s m c D k Z b L xs) {a6 : Nat → Nat} {h ao : Nat} {i : Int32} (wo F : va_W) {t t6 : Tw} {fs : List Value} (hws : wo[0]? = some (h, .inr (1, fs))) {rm : Room} {mc ms : Nat} {P1 : Int32 → va_W → Prop} {r6 : Int32} (hrc : rm.cells = mc) (hrs : rm.slots = ms) (hfr : rm.frames + 1 ≤ 8192 ∧ 8 + (3 + 11) + rm.locals ≤ 104096) (hM : CtW l yX1_quiet cX1_quiet 3 (some .int) rm Z D zCl wo [.ref h] (PXo P1) mc ms) (hM6 : CtW l yX6_quiet cX6_quiet 3 (some .int) rX6_quiet Z D zCl (cT k a6 t) [.ref (a6 0)] (fun r' w' => r' = some (.int r6) ∧ w' = cT k a6 t6) 0 0) (hrel : ∀ x V, P1 x V → x = r6) {H : Heap} {locs : List Loc} {cells slots : Nat} (hP : va_P D zCl (cT k a6 t ++ (wo ++ F)) H) (hD : va_D (fun q => s.heap.size ≤ q) (cT k a6 t ++ (wo ++ F))) (hS : va_S (fun q => s.heap.size ≤ q) s.heap H locs) (hcells : cells + mc ≤ 603072) (hslots : slots + ms ≤ 7190634) (kk : ∀ x V H locs, P1 x V → va_P D zCl (cT k a6 t6 ++ (V ++ F)) H → va_D (fun q => s.heap.size ≤ q) (cT k a6 t6 ++ (V ++ F)) → va_S (fun q => s.heap.size ≤ q) s.heap H locs → ∀ ls, lv_has ls 7 [(0, .ref b), (1, .ref h), (2, .ref (a6 0)), (3, .ref ao), (4, .int i)] → W p l e room_1 s m #[Value.ref b] below meth c H locs (cells + mc) (slots + ms) Q (F0 m 2965 ls [])) {ls : Array Slot} (hl : lv_has ls 7 [(0, .ref b), (1, .ref h), (2, .ref (a6 0)), (3, .ref ao), (4, .int i)]) : W p l e room_1 s m #[Value.ref b] below meth c H locs cells slots Q (F0 m 1865 ls []) := by
  obtain ⟨hx, hb, hml, hown, hts, hX, hbl, hOK, hz⟩ := hC
  have hK := hOK.1 _ _ _ hz
  have hbA : ¬ (fun q => s.heap.size ≤ q) b := Nat.not_le.mpr hbl
  have hA : ∀ q : Nat, s.heap.size ≤ q → (fun q => s.heap.size ≤ q) q := fun _ h => h
  refine lv_aload_n hx hb dL_law_1865 rfl (lv_at hl 1 rfl) ?_
  refine cWV (cT k a6 t) wo F (As := []) (ci := 1) ⟨hx, hb, hml, hown, hts⟩ hOK hz hS hA hP hD hM (kX1_quiet hts q613 hrc hrs ⟨(by show rm.frames + 1 ≤ 8192; omega), (by show 8 + (3 + 11) + rm.locals ≤ 104096; omega)⟩) 0 hws rfl rfl hl.1 rfl (lv_room (Nat.le_of_ble_eq_true rfl)) ⟨hcells, hslots⟩ dL_law_1866 (fun r_ w_ H locs hq hP hD hS => ?_)
  obtain ⟨x, hq1, rfl⟩ := hq
  refine lv_aload_n hx hb dL_law_1869 rfl (lv_at hl 2 rfl) ?_
  refine cWV [] (cT k a6 t) (w_ ++ F) (As := []) (ci := 0) ⟨hx, hb, hml, hown, hts⟩ hOK hz hS hA hP hD hM6 (kX6_quiet hts q2334 rfl rfl ⟨Nat.le_of_ble_eq_true rfl, Nat.le_of_ble_eq_true rfl⟩) 0 rfl rfl rfl hl.1 rfl (lv_room (Nat.le_of_ble_eq_true rfl)) ⟨hcells, hslots⟩ dL_law_1870 (fun r_ w_6 H locs hq hP hD hS => ?_)
  obtain ⟨rfl, rfl⟩ := hq
  have hP : va_P D zCl (cT k a6 t6 ++ (w_ ++ F)) _ := hP
  have hD : va_D (fun q => s.heap.size ≤ q) (cT k a6 t6 ++ (w_ ++ F)) := hD
  have hre := hrel _ _ hq1
  subst hre
  refine lv_icmp_eq (tgt := 2965) hx hb dL_law_1873 (by decide) (fun _ => ?_) (fun c1 => absurd rfl c1)
  exact kk _ _ _ _ hq1 hP hD hS _ hl
set_option maxRecDepth 100000 in
theorem cs_best {p : Program} {l : Launch} {e : Env} {s : State} {m : MethodId} {below : List Frame} {meth : Method} {c : Code} {Q : State → Prop} {D : va_G} {k : Nat → ClassId} {Z : zZ} {b L : Nat} {xs : Nat → Int32} (hC : lwC p s m c D k Z b L xs) {a6 : Nat → Nat} {h ao : Nat} {i : Int32} (wo F : va_W) {t t6 : Tw} {fs : List Value} (hws : wo[0]? = some (h, .inr (1, fs))) {rm : Room} {mc ms : Nat} {P1 : Int32 → va_W → Prop} {r6 : Int32} (hrc : rm.cells = mc) (hrs : rm.slots = ms) (hfr : rm.frames + 1 ≤ 8192 ∧ 8 + (3 + 11) + rm.locals ≤ 104096) (hM : CtW l yX1_best cX1_best 3 (some .int) rm Z D zCl wo [.ref h] (PXo P1) mc ms) (hM6 : CtW l yX6_best cX6_best 4 (some .int) rX6_best Z D zCl (cT k a6 t) [.ref (a6 0)] (fun r' w' => r' = some (.int r6) ∧ w' = cT k a6 t6) 0 0) (hrel : ∀ x V, P1 x V → x = r6) {H : Heap} {locs : List Loc} {cells slots : Nat} (hP : va_P D zCl (cT k a6 t ++ (wo ++ F)) H) (hD : va_D (fun q => s.heap.size ≤ q) (cT k a6 t ++ (wo ++ F))) (hS : va_S (fun q => s.heap.size ≤ q) s.heap H locs) (hcells : cells + mc ≤ 603072) (hslots : slots + ms ≤ 7190634) (kk : ∀ x V H locs, P1 x V → va_P D zCl (cT k a6 t6 ++ (V ++ F)) H → va_D (fun q => s.heap.size ≤ q) (cT k a6 t6 ++ (V ++ F)) → va_S (fun q => s.heap.size ≤ q) s.heap H locs → ∀ ls, lv_has ls 7 [(0, .ref b), (1, .ref h), (2, .ref (a6 0)), (3, .ref ao), (4, .int i)] → W p l e room_1 s m #[Value.ref b] below meth c H locs (cells + mc) (slots + ms) Q (F0 m 2965 ls [])) {ls : Array Slot} (hl : lv_has ls 7 [(0, .ref b), (1, .ref h), (2, .ref (a6 0)), (3, .ref ao), (4, .int i)]) : W p l e room_1 s m #[Value.ref b] below meth c H locs cells slots Q (F0 m 1878 ls []) := by
  obtain ⟨hx, hb, hml, hown, hts, hX, hbl, hOK, hz⟩ := hC
  have hK := hOK.1 _ _ _ hz
  have hbA : ¬ (fun q => s.heap.size ≤ q) b := Nat.not_le.mpr hbl
  have hA : ∀ q : Nat, s.heap.size ≤ q → (fun q => s.heap.size ≤ q) q := fun _ h => h
  refine lv_aload_n hx hb dL_law_1878 rfl (lv_at hl 1 rfl) ?_
  refine cWV (cT k a6 t) wo F (As := []) (ci := 1) ⟨hx, hb, hml, hown, hts⟩ hOK hz hS hA hP hD hM (kX1_best hts q617 hrc hrs ⟨(by show rm.frames + 1 ≤ 8192; omega), (by show 8 + (3 + 11) + rm.locals ≤ 104096; omega)⟩) 0 hws rfl rfl hl.1 rfl (lv_room (Nat.le_of_ble_eq_true rfl)) ⟨hcells, hslots⟩ dL_law_1879 (fun r_ w_ H locs hq hP hD hS => ?_)
  obtain ⟨x, hq1, rfl⟩ := hq
  refine lv_aload_n hx hb dL_law_1882 rfl (lv_at hl 2 rfl) ?_
  refine cWV [] (cT k a6 t) (w_ ++ F) (As := []) (ci := 0) ⟨hx, hb, hml, hown, hts⟩ hOK hz hS hA hP hD hM6 (kX6_best hts q2338 rfl rfl ⟨Nat.le_of_ble_eq_true rfl, Nat.le_of_ble_eq_true rfl⟩) 0 rfl rfl rfl hl.1 rfl (lv_room (Nat.le_of_ble_eq_true rfl)) ⟨hcells, hslots⟩ dL_law_1883 (fun r_ w_6 H locs hq hP hD hS => ?_)
  obtain ⟨rfl, rfl⟩ := hq
  have hP : va_P D zCl (cT k a6 t6 ++ (w_ ++ F)) _ := hP
  have hD : va_D (fun q => s.heap.size ≤ q) (cT k a6 t6 ++ (w_ ++ F)) := hD
  have hre := hrel _ _ hq1
  subst hre
  refine lv_icmp_eq (tgt := 2965) hx hb dL_law_1886 (by decide) (fun _ => ?_) (fun c1 => absurd rfl c1)
  exact kk _ _ _ _ hq1 hP hD hS _ hl
set_option maxRecDepth 100000 in
theorem cs_lodge {p : Program} {l : Launch} {e : Env} {s : State} {m : MethodId} {below : List Frame} {meth : Method} {c : Code} {Q : State → Prop} {D : va_G} {k : Nat → ClassId} {Z : zZ} {b L : Nat} {xs : Nat → Int32} (hC : lwC p s m c D k Z b L xs) {a6 : Nat → Nat} {h ao : Nat} {i : Int32} (wo F : va_W) {t t6 : Tw} {p1 : Int32} (hp1 : sAt xs L i 1 p1) {fs : List Value} (hws : wo[0]? = some (h, .inr (1, fs))) {rm : Room} {mc ms : Nat} {P1 : Int32 → va_W → Prop} {r6 : Int32} (hrc : rm.cells = mc) (hrs : rm.slots = ms) (hfr : rm.frames + 1 ≤ 8192 ∧ 8 + (2 + 11) + rm.locals ≤ 104096) (hM : CtW l yX1_lodge cX1_lodge 2 (some .int) rm Z D zCl wo [.ref h, .int p1] (PXo P1) mc ms) (hM6 : CtW l yX6_lodge cX6_lodge 6 (some .int) rX6_lodge Z D zCl (cT k a6 t) [.ref (a6 0), .int p1] (fun r' w' => r' = some (.int r6) ∧ w' = cT k a6 t6) 0 0) (hrel : ∀ x V, P1 x V → x = r6) {H : Heap} {locs : List Loc} {cells slots : Nat} (hP : va_P D zCl (cT k a6 t ++ (wo ++ F)) H) (hD : va_D (fun q => s.heap.size ≤ q) (cT k a6 t ++ (wo ++ F))) (hS : va_S (fun q => s.heap.size ≤ q) s.heap H locs) (hcells : cells + mc ≤ 603072) (hslots : slots + ms ≤ 7190634) (kk : ∀ x V H locs, P1 x V → va_P D zCl (cT k a6 t6 ++ (V ++ F)) H → va_D (fun q => s.heap.size ≤ q) (cT k a6 t6 ++ (V ++ F)) → va_S (fun q => s.heap.size ≤ q) s.heap H locs → ∀ ls, lv_has ls 7 [(0, .ref b), (1, .ref h), (2, .ref (a6 0)), (3, .ref ao), (4, .int i)] → W p l e room_1 s m #[Value.ref b] below meth c H locs (cells + mc) (slots + ms) Q (F0 m 2965 ls [])) {ls : Array Slot} (hl : lv_has ls 7 [(0, .ref b), (1, .ref h), (2, .ref (a6 0)), (3, .ref ao), (4, .int i)]) : W p l e room_1 s m #[Value.ref b] below meth c H locs cells slots Q (F0 m 1891 ls []) := by
  obtain ⟨hx, hb, hml, hown, hts, hX, hbl, hOK, hz⟩ := hC
  have hK := hOK.1 _ _ _ hz
  have hbA : ¬ (fun q => s.heap.size ≤ q) b := Nat.not_le.mpr hbl
  have hA : ∀ q : Nat, s.heap.size ≤ q → (fun q => s.heap.size ≤ q) q := fun _ h => h
  refine lv_aload_n hx hb dL_law_1891 rfl (lv_at hl 1 rfl) ?_
  refine lw_arg (j := (1 : Int32)) hx hb hX hbl hbA hS hp1 (lv_at hl 0 rfl) (lv_at hl 4 rfl) dL_law_1892 dL_law_1893 dL_law_1895 (by decide) dL_law_1896 dL_law_1897 ?_
  refine cWV (cT k a6 t) wo F (As := [.int p1]) (ci := 1) ⟨hx, hb, hml, hown, hts⟩ hOK hz hS hA hP hD hM (kX1_lodge hts q639 hrc hrs ⟨(by show rm.frames + 1 ≤ 8192; omega), (by show 8 + (2 + 11) + rm.locals ≤ 104096; omega)⟩) 0 hws rfl rfl hl.1 rfl (lv_room (Nat.le_of_ble_eq_true rfl)) ⟨hcells, hslots⟩ dL_law_1898 (fun r_ w_ H locs hq hP hD hS => ?_)
  obtain ⟨x, hq1, rfl⟩ := hq
  refine lv_aload_n hx hb dL_law_1901 rfl (lv_at hl 2 rfl) ?_
  refine lw_arg (j := (1 : Int32)) hx hb hX hbl hbA hS hp1 (lv_at hl 0 rfl) (lv_at hl 4 rfl) dL_law_1902 dL_law_1903 dL_law_1905 (by decide) dL_law_1906 dL_law_1907 ?_
  refine cWV [] (cT k a6 t) (w_ ++ F) (As := [.int p1]) (ci := 0) ⟨hx, hb, hml, hown, hts⟩ hOK hz hS hA hP hD hM6 (kX6_lodge hts q2346 rfl rfl ⟨Nat.le_of_ble_eq_true rfl, Nat.le_of_ble_eq_true rfl⟩) 0 rfl rfl rfl hl.1 rfl (lv_room (Nat.le_of_ble_eq_true rfl)) ⟨hcells, hslots⟩ dL_law_1908 (fun r_ w_6 H locs hq hP hD hS => ?_)
  obtain ⟨rfl, rfl⟩ := hq
  have hP : va_P D zCl (cT k a6 t6 ++ (w_ ++ F)) _ := hP
  have hD : va_D (fun q => s.heap.size ≤ q) (cT k a6 t6 ++ (w_ ++ F)) := hD
  have hre := hrel _ _ hq1
  subst hre
  refine lv_icmp_eq (tgt := 2965) hx hb dL_law_1911 (by decide) (fun _ => ?_) (fun c1 => absurd rfl c1)
  exact kk _ _ _ _ hq1 hP hD hS _ hl
set_option maxRecDepth 100000 in
theorem cs_rests {p : Program} {l : Launch} {e : Env} {s : State} {m : MethodId} {below : List Frame} {meth : Method} {c : Code} {Q : State → Prop} {D : va_G} {k : Nat → ClassId} {Z : zZ} {b L : Nat} {xs : Nat → Int32} (hC : lwC p s m c D k Z b L xs) {a6 : Nat → Nat} {h ao : Nat} {i : Int32} (wo F : va_W) {t t6 : Tw} {p1 : Int32} (hp1 : sAt xs L i 1 p1) {rm : Room} {mc ms : Nat} {P1 : Int32 → (Nat → Int64) → va_W → Prop} {r6 : Int32} (hrc : rm.cells = mc) (hrs : rm.slots = ms) (hfr : rm.frames + 1 ≤ 8192 ∧ 8 + (4 + 11) + rm.locals ≤ 104096) (hM : CtXH l yX0_rests cX0_rests 4 (some .int) hhX0_rests rm Z D zCl wo [.ref h, .int p1, .ref ao] (PWo k ao P1) (fun _ _ => False) mc ms) (hM6 : CtW l yX6_rests cX6_rests 7 (some .int) rX6_rests Z D zCl (cT k a6 t) [.ref (a6 0), .int p1] (fun r' w' => r' = some (.int r6) ∧ w' = cT k a6 t6) 0 0) (hrel : ∀ x g V, P1 x g V → fX6_thrown t6 = some x ∧ (x = 0 → g0 g = r6.toInt64)) {H : Heap} {locs : List Loc} {cells slots : Nat} (hP : va_P D zCl (cT k a6 t ++ (wo ++ F)) H) (hD : va_D (fun q => s.heap.size ≤ q) (cT k a6 t ++ (wo ++ F))) (hS : va_S (fun q => s.heap.size ≤ q) s.heap H locs) (hcells : cells + mc ≤ 603072) (hslots : slots + ms ≤ 7190634) (kk : ∀ x g V H locs, P1 x g V → va_P D zCl (cT k a6 t6 ++ ((V ++ [ouC k ao g]) ++ F)) H → va_D (fun q => s.heap.size ≤ q) (cT k a6 t6 ++ ((V ++ [ouC k ao g]) ++ F)) → va_S (fun q => s.heap.size ≤ q) s.heap H locs → ∀ ls, lv_has ls 7 [(0, .ref b), (1, .ref h), (2, .ref (a6 0)), (3, .ref ao), (4, .int i)] → W p l e room_1 s m #[Value.ref b] below meth c H locs (cells + mc) (slots + ms) Q (F0 m 2965 ls [])) {ls : Array Slot} (hl : lv_has ls 7 [(0, .ref b), (1, .ref h), (2, .ref (a6 0)), (3, .ref ao), (4, .int i)]) : W p l e room_1 s m #[Value.ref b] below meth c H locs cells slots Q (F0 m 1916 ls []) := by
  obtain ⟨hx, hb, hml, hown, hts, hX, hbl, hOK, hz⟩ := hC
  have hK := hOK.1 _ _ _ hz
  have hbA : ¬ (fun q => s.heap.size ≤ q) b := Nat.not_le.mpr hbl
  have hA : ∀ q : Nat, s.heap.size ≤ q → (fun q => s.heap.size ≤ q) q := fun _ h => h
  refine lv_aload_n hx hb dL_law_1916 rfl (lv_at hl 1 rfl) ?_
  refine lw_arg (j := (1 : Int32)) hx hb hX hbl hbA hS hp1 (lv_at hl 0 rfl) (lv_at hl 4 rfl) dL_law_1917 dL_law_1918 dL_law_1920 (by decide) dL_law_1921 dL_law_1922 ?_
  refine lv_aload_n hx hb dL_law_1923 rfl (lv_at hl 3 rfl) ?_
  refine cXSH (cT k a6 t) wo F (As := [.ref h, .int p1, .ref ao]) ⟨hx, hb, hml, hown, hts⟩ hOK hz hS hA hP hD hM (kX0_rests hts q1760 hrc hrs ⟨(by show rm.frames + 1 ≤ 8192; omega), (by show 8 + (4 + 11) + rm.locals ≤ 104096; omega)⟩) rfl hl.1 rfl (lv_room (Nat.le_of_ble_eq_true rfl)) ⟨hcells, hslots⟩ dL_law_1924 (fun E_ w_ ce_ q9_ H locs hq hP hD hS hce hcv hcl => hq.elim) (fun r_ w_ H locs hq hP hD hS => ?_)
  obtain ⟨x, g, V, hq1, rfl, rfl⟩ := hq
  refine lv_istore (lv' := [(5, .int x), (0, .ref b), (1, .ref h), (2, .ref (a6 0)), (3, .ref ao), (4, .int i)]) hx hb dL_law_1927 hl (by decide) rfl (fun ls hl => ?_)
  refine lv_aload_n hx hb dL_law_1929 rfl (lv_at hl 3 rfl) ?_
  refine lw_arg (j := (1 : Int32)) hx hb hX hbl hbA hS hp1 (lv_at hl 1 rfl) (lv_at hl 5 rfl) dL_law_1930 dL_law_1931 dL_law_1933 (by decide) dL_law_1934 dL_law_1935 ?_
  refine cWV [] (cT k a6 t) ((V ++ [ouC k ao g]) ++ F) (As := [.int p1]) (ci := 0) ⟨hx, hb, hml, hown, hts⟩ hOK hz hS hA hP hD hM6 (kX6_rests hts q2355 rfl rfl ⟨Nat.le_of_ble_eq_true rfl, Nat.le_of_ble_eq_true rfl⟩) 0 rfl rfl rfl hl.1 rfl (lv_room (Nat.le_of_ble_eq_true rfl)) ⟨hcells, hslots⟩ dL_law_1936 (fun r_ w_6 H locs hq hP hD hS => ?_)
  obtain ⟨rfl, rfl⟩ := hq
  have hP : va_P D zCl (cT k a6 t6 ++ ((V ++ [ouC k ao g]) ++ F)) _ := hP
  have hD : va_D (fun q => s.heap.size ≤ q) (cT k a6 t6 ++ ((V ++ [ouC k ao g]) ++ F)) := hD
  refine lv_istore (lv' := [(6, .int r6), (5, .int x), (0, .ref b), (1, .ref h), (2, .ref (a6 0)), (3, .ref ao), (4, .int i)]) hx hb dL_law_1939 hl (by decide) rfl (fun ls hl => ?_)
  refine lv_aload_n hx hb dL_law_1941 rfl (lv_at hl 4 rfl) ?_
  obtain ⟨hth, hge⟩ := hrel _ _ _ hq1
  refine cRV (As := []) (ci := 0) ⟨hx, hb, hml, hown, hts⟩ hOK hz hS (zdropP hP) (mtX6_thrown l D k a6 Z hOK t6 x hth) (kX6_thrown hts q1969 rfl rfl ⟨Nat.le_of_ble_eq_true rfl, Nat.le_of_ble_eq_true rfl⟩) 0 rfl rfl rfl hl.1 rfl (lv_room (Nat.le_of_ble_eq_true rfl)) ⟨(by show cells + mc ≤ 603072; exact hcells), (by show slots + ms ≤ 7190634; exact hslots)⟩ dL_law_1942 ?_
  refine lv_iload hx hb dL_law_1945 (lv_at hl 1 rfl) ?_
  refine lv_icmp_eq (tgt := 1952) hx hb dL_law_1947 (by decide) (fun _ => ?_) (fun c1 => absurd rfl c1)
  refine lv_iload hx hb dL_law_1952 (lv_at hl 1 rfl) ?_
  refine lv_if_ne (tgt := 1969) hx hb dL_law_1954 (by decide) (fun _ => ?_) (fun c2 => ?_)
  · refine lv_goto (tgt := 2965) hx hb dL_law_1969 (by decide) ?_
    exact kk _ _ _ _ _ hq1 hP hD hS _ (lv_sub hl [2, 3, 4, 5, 6] rfl)
  · refine lv_aload_n hx hb dL_law_1957 rfl (lv_at hl 5 rfl) ?_
    refine lv_iconst (v := (0 : Int32)) hx hb dL_law_1958 (by decide) ?_
    refine va_lald hx hb hK hP ((cT k a6 t6).length + V.length) 3 (ouIdx _ _ _ _) rfl out_in dL_law_1959 ?_
    rw [show g (Int32.toNatClampNeg (0 : Int32)) = r6.toInt64 from hge c2]
    refine lv_iload hx hb dL_law_1960 (lv_at hl 0 rfl) ?_
    refine lv_i2l (v := r6.toInt64) hx hb dL_law_1962 rfl ?_
    refine lv_lcmp_same hx hb dL_law_1963 ?_
    refine lv_if_eq (tgt := 1969) hx hb dL_law_1964 (by decide) (fun _ => ?_) (fun c3 => absurd rfl c3)
    refine lv_goto (tgt := 2965) hx hb dL_law_1969 (by decide) ?_
    exact kk _ _ _ _ _ hq1 hP hD hS _ (lv_sub hl [2, 3, 4, 5, 6] rfl)
set_option maxRecDepth 100000 in
theorem cs_shifts {p : Program} {l : Launch} {e : Env} {s : State} {m : MethodId} {below : List Frame} {meth : Method} {c : Code} {Q : State → Prop} {D : va_G} {k : Nat → ClassId} {Z : zZ} {b L : Nat} {xs : Nat → Int32} (hC : lwC p s m c D k Z b L xs) {a6 : Nat → Nat} {h ao : Nat} {i : Int32} (wo F : va_W) {t t6 : Tw} {rm : Room} {mc ms : Nat} {P1 : Int32 → (Nat → Int64) → va_W → Prop} {r6 : Int32} (hrc : rm.cells = mc) (hrs : rm.slots = ms) (hfr : rm.frames + 1 ≤ 8192 ∧ 8 + (3 + 11) + rm.locals ≤ 104096) (hM : CtXH l yX0_shifts cX0_shifts 3 (some .int) hhX0_shifts rm Z D zCl wo [.ref h, .ref ao] (PWo k ao P1) (fun _ _ => False) mc ms) (hM6 : CtW l yX6_shifts cX6_shifts 2 (some .int) rX6_shifts Z D zCl (cT k a6 t) [.ref (a6 0)] (fun r' w' => r' = some (.int r6) ∧ w' = cT k a6 t6) 0 0) (hrel : ∀ x g V, P1 x g V → fX6_thrown t6 = some x ∧ (x = 0 → g0 g = r6.toInt64)) {H : Heap} {locs : List Loc} {cells slots : Nat} (hP : va_P D zCl (cT k a6 t ++ (wo ++ F)) H) (hD : va_D (fun q => s.heap.size ≤ q) (cT k a6 t ++ (wo ++ F))) (hS : va_S (fun q => s.heap.size ≤ q) s.heap H locs) (hcells : cells + mc ≤ 603072) (hslots : slots + ms ≤ 7190634) (kk : ∀ x g V H locs, P1 x g V → va_P D zCl (cT k a6 t6 ++ ((V ++ [ouC k ao g]) ++ F)) H → va_D (fun q => s.heap.size ≤ q) (cT k a6 t6 ++ ((V ++ [ouC k ao g]) ++ F)) → va_S (fun q => s.heap.size ≤ q) s.heap H locs → ∀ ls, lv_has ls 7 [(0, .ref b), (1, .ref h), (2, .ref (a6 0)), (3, .ref ao), (4, .int i)] → W p l e room_1 s m #[Value.ref b] below meth c H locs (cells + mc) (slots + ms) Q (F0 m 2965 ls [])) {ls : Array Slot} (hl : lv_has ls 7 [(0, .ref b), (1, .ref h), (2, .ref (a6 0)), (3, .ref ao), (4, .int i)]) : W p l e room_1 s m #[Value.ref b] below meth c H locs cells slots Q (F0 m 1972 ls []) := by
  obtain ⟨hx, hb, hml, hown, hts, hX, hbl, hOK, hz⟩ := hC
  have hK := hOK.1 _ _ _ hz
  have hbA : ¬ (fun q => s.heap.size ≤ q) b := Nat.not_le.mpr hbl
  have hA : ∀ q : Nat, s.heap.size ≤ q → (fun q => s.heap.size ≤ q) q := fun _ h => h
  refine lv_aload_n hx hb dL_law_1972 rfl (lv_at hl 1 rfl) ?_
  refine lv_aload_n hx hb dL_law_1973 rfl (lv_at hl 3 rfl) ?_
  refine cXSH (cT k a6 t) wo F (As := [.ref h, .ref ao]) ⟨hx, hb, hml, hown, hts⟩ hOK hz hS hA hP hD hM (kX0_shifts hts q1775 hrc hrs ⟨(by show rm.frames + 1 ≤ 8192; omega), (by show 8 + (3 + 11) + rm.locals ≤ 104096; omega)⟩) rfl hl.1 rfl (lv_room (Nat.le_of_ble_eq_true rfl)) ⟨hcells, hslots⟩ dL_law_1974 (fun E_ w_ ce_ q9_ H locs hq hP hD hS hce hcv hcl => hq.elim) (fun r_ w_ H locs hq hP hD hS => ?_)
  obtain ⟨x, g, V, hq1, rfl, rfl⟩ := hq
  refine lv_istore (lv' := [(5, .int x), (0, .ref b), (1, .ref h), (2, .ref (a6 0)), (3, .ref ao), (4, .int i)]) hx hb dL_law_1977 hl (by decide) rfl (fun ls hl => ?_)
  refine lv_aload_n hx hb dL_law_1979 rfl (lv_at hl 3 rfl) ?_
  refine cWV [] (cT k a6 t) ((V ++ [ouC k ao g]) ++ F) (As := []) (ci := 0) ⟨hx, hb, hml, hown, hts⟩ hOK hz hS hA hP hD hM6 (kX6_shifts hts q2367 rfl rfl ⟨Nat.le_of_ble_eq_true rfl, Nat.le_of_ble_eq_true rfl⟩) 0 rfl rfl rfl hl.1 rfl (lv_room (Nat.le_of_ble_eq_true rfl)) ⟨hcells, hslots⟩ dL_law_1980 (fun r_ w_6 H locs hq hP hD hS => ?_)
  obtain ⟨rfl, rfl⟩ := hq
  have hP : va_P D zCl (cT k a6 t6 ++ ((V ++ [ouC k ao g]) ++ F)) _ := hP
  have hD : va_D (fun q => s.heap.size ≤ q) (cT k a6 t6 ++ ((V ++ [ouC k ao g]) ++ F)) := hD
  refine lv_istore (lv' := [(6, .int r6), (5, .int x), (0, .ref b), (1, .ref h), (2, .ref (a6 0)), (3, .ref ao), (4, .int i)]) hx hb dL_law_1983 hl (by decide) rfl (fun ls hl => ?_)
  refine lv_aload_n hx hb dL_law_1985 rfl (lv_at hl 4 rfl) ?_
  obtain ⟨hth, hge⟩ := hrel _ _ _ hq1
  refine cRV (As := []) (ci := 0) ⟨hx, hb, hml, hown, hts⟩ hOK hz hS (zdropP hP) (mtX6_thrown l D k a6 Z hOK t6 x hth) (kX6_thrown hts q1969 rfl rfl ⟨Nat.le_of_ble_eq_true rfl, Nat.le_of_ble_eq_true rfl⟩) 0 rfl rfl rfl hl.1 rfl (lv_room (Nat.le_of_ble_eq_true rfl)) ⟨(by show cells + mc ≤ 603072; exact hcells), (by show slots + ms ≤ 7190634; exact hslots)⟩ dL_law_1986 ?_
  refine lv_iload hx hb dL_law_1989 (lv_at hl 1 rfl) ?_
  refine lv_icmp_eq (tgt := 1996) hx hb dL_law_1991 (by decide) (fun _ => ?_) (fun c1 => absurd rfl c1)
  refine lv_iload hx hb dL_law_1996 (lv_at hl 1 rfl) ?_
  refine lv_if_ne (tgt := 2013) hx hb dL_law_1998 (by decide) (fun _ => ?_) (fun c2 => ?_)
  · refine lv_goto (tgt := 2965) hx hb dL_law_2013 (by decide) ?_
    exact kk _ _ _ _ _ hq1 hP hD hS _ (lv_sub hl [2, 3, 4, 5, 6] rfl)
  · refine lv_aload_n hx hb dL_law_2001 rfl (lv_at hl 5 rfl) ?_
    refine lv_iconst (v := (0 : Int32)) hx hb dL_law_2002 (by decide) ?_
    refine va_lald hx hb hK hP ((cT k a6 t6).length + V.length) 3 (ouIdx _ _ _ _) rfl out_in dL_law_2003 ?_
    rw [show g (Int32.toNatClampNeg (0 : Int32)) = r6.toInt64 from hge c2]
    refine lv_iload hx hb dL_law_2004 (lv_at hl 0 rfl) ?_
    refine lv_i2l (v := r6.toInt64) hx hb dL_law_2006 rfl ?_
    refine lv_lcmp_same hx hb dL_law_2007 ?_
    refine lv_if_eq (tgt := 2013) hx hb dL_law_2008 (by decide) (fun _ => ?_) (fun c3 => absurd rfl c3)
    refine lv_goto (tgt := 2965) hx hb dL_law_2013 (by decide) ?_
    exact kk _ _ _ _ _ hq1 hP hD hS _ (lv_sub hl [2, 3, 4, 5, 6] rfl)
set_option maxRecDepth 100000 in
theorem cs_ask {p : Program} {l : Launch} {e : Env} {s : State} {m : MethodId} {below : List Frame} {meth : Method} {c : Code} {Q : State → Prop} {D : va_G} {k : Nat → ClassId} {Z : zZ} {b L : Nat} {xs : Nat → Int32} (hC : lwC p s m c D k Z b L xs) {a6 : Nat → Nat} {h ao : Nat} {i : Int32} (wo F : va_W) {t t6 : Tw} {rm : Room} {mc ms : Nat} {P1 : Int32 → (Nat → Int64) → va_W → Prop} {r6 : Int32} (hrc : rm.cells = mc) (hrs : rm.slots = ms) (hfr : rm.frames + 1 ≤ 8192 ∧ 8 + (3 + 11) + rm.locals ≤ 104096) (hM : CtXH l yX0_ask cX0_ask 3 (some .int) hhX0_ask rm Z D zCl wo [.ref h, .ref ao] (PWo k ao P1) (fun _ _ => False) mc ms) (hM6 : CtW l yX6_ask cX6_ask 7 (some .int) rX6_ask Z D zCl (cT k a6 t) [.ref (a6 0)] (fun r' w' => r' = some (.int r6) ∧ w' = cT k a6 t6) 0 0) (hrel : ∀ x g V, P1 x g V → fX6_thrown t6 = some x ∧ (x = 0 → g0 g = r6.toInt64)) {H : Heap} {locs : List Loc} {cells slots : Nat} (hP : va_P D zCl (cT k a6 t ++ (wo ++ F)) H) (hD : va_D (fun q => s.heap.size ≤ q) (cT k a6 t ++ (wo ++ F))) (hS : va_S (fun q => s.heap.size ≤ q) s.heap H locs) (hcells : cells + mc ≤ 603072) (hslots : slots + ms ≤ 7190634) (kk : ∀ x g V H locs, P1 x g V → va_P D zCl (cT k a6 t6 ++ ((V ++ [ouC k ao g]) ++ F)) H → va_D (fun q => s.heap.size ≤ q) (cT k a6 t6 ++ ((V ++ [ouC k ao g]) ++ F)) → va_S (fun q => s.heap.size ≤ q) s.heap H locs → ∀ ls, lv_has ls 7 [(0, .ref b), (1, .ref h), (2, .ref (a6 0)), (3, .ref ao), (4, .int i)] → W p l e room_1 s m #[Value.ref b] below meth c H locs (cells + mc) (slots + ms) Q (F0 m 2965 ls [])) {ls : Array Slot} (hl : lv_has ls 7 [(0, .ref b), (1, .ref h), (2, .ref (a6 0)), (3, .ref ao), (4, .int i)]) : W p l e room_1 s m #[Value.ref b] below meth c H locs cells slots Q (F0 m 2016 ls []) := by
  obtain ⟨hx, hb, hml, hown, hts, hX, hbl, hOK, hz⟩ := hC
  have hK := hOK.1 _ _ _ hz
  have hbA : ¬ (fun q => s.heap.size ≤ q) b := Nat.not_le.mpr hbl
  have hA : ∀ q : Nat, s.heap.size ≤ q → (fun q => s.heap.size ≤ q) q := fun _ h => h
  refine lv_aload_n hx hb dL_law_2016 rfl (lv_at hl 1 rfl) ?_
  refine lv_aload_n hx hb dL_law_2017 rfl (lv_at hl 3 rfl) ?_
  refine cXSH (cT k a6 t) wo F (As := [.ref h, .ref ao]) ⟨hx, hb, hml, hown, hts⟩ hOK hz hS hA hP hD hM (kX0_ask hts q1794 hrc hrs ⟨(by show rm.frames + 1 ≤ 8192; omega), (by show 8 + (3 + 11) + rm.locals ≤ 104096; omega)⟩) rfl hl.1 rfl (lv_room (Nat.le_of_ble_eq_true rfl)) ⟨hcells, hslots⟩ dL_law_2018 (fun E_ w_ ce_ q9_ H locs hq hP hD hS hce hcv hcl => hq.elim) (fun r_ w_ H locs hq hP hD hS => ?_)
  obtain ⟨x, g, V, hq1, rfl, rfl⟩ := hq
  refine lv_istore (lv' := [(5, .int x), (0, .ref b), (1, .ref h), (2, .ref (a6 0)), (3, .ref ao), (4, .int i)]) hx hb dL_law_2021 hl (by decide) rfl (fun ls hl => ?_)
  refine lv_aload_n hx hb dL_law_2023 rfl (lv_at hl 3 rfl) ?_
  refine cWV [] (cT k a6 t) ((V ++ [ouC k ao g]) ++ F) (As := []) (ci := 0) ⟨hx, hb, hml, hown, hts⟩ hOK hz hS hA hP hD hM6 (kX6_ask hts q2379 rfl rfl ⟨Nat.le_of_ble_eq_true rfl, Nat.le_of_ble_eq_true rfl⟩) 0 rfl rfl rfl hl.1 rfl (lv_room (Nat.le_of_ble_eq_true rfl)) ⟨hcells, hslots⟩ dL_law_2024 (fun r_ w_6 H locs hq hP hD hS => ?_)
  obtain ⟨rfl, rfl⟩ := hq
  have hP : va_P D zCl (cT k a6 t6 ++ ((V ++ [ouC k ao g]) ++ F)) _ := hP
  have hD : va_D (fun q => s.heap.size ≤ q) (cT k a6 t6 ++ ((V ++ [ouC k ao g]) ++ F)) := hD
  refine lv_istore (lv' := [(6, .int r6), (5, .int x), (0, .ref b), (1, .ref h), (2, .ref (a6 0)), (3, .ref ao), (4, .int i)]) hx hb dL_law_2027 hl (by decide) rfl (fun ls hl => ?_)
  refine lv_aload_n hx hb dL_law_2029 rfl (lv_at hl 4 rfl) ?_
  obtain ⟨hth, hge⟩ := hrel _ _ _ hq1
  refine cRV (As := []) (ci := 0) ⟨hx, hb, hml, hown, hts⟩ hOK hz hS (zdropP hP) (mtX6_thrown l D k a6 Z hOK t6 x hth) (kX6_thrown hts q1969 rfl rfl ⟨Nat.le_of_ble_eq_true rfl, Nat.le_of_ble_eq_true rfl⟩) 0 rfl rfl rfl hl.1 rfl (lv_room (Nat.le_of_ble_eq_true rfl)) ⟨(by show cells + mc ≤ 603072; exact hcells), (by show slots + ms ≤ 7190634; exact hslots)⟩ dL_law_2030 ?_
  refine lv_iload hx hb dL_law_2033 (lv_at hl 1 rfl) ?_
  refine lv_icmp_eq (tgt := 2040) hx hb dL_law_2035 (by decide) (fun _ => ?_) (fun c1 => absurd rfl c1)
  refine lv_iload hx hb dL_law_2040 (lv_at hl 1 rfl) ?_
  refine lv_if_ne (tgt := 2057) hx hb dL_law_2042 (by decide) (fun _ => ?_) (fun c2 => ?_)
  · refine lv_goto (tgt := 2965) hx hb dL_law_2057 (by decide) ?_
    exact kk _ _ _ _ _ hq1 hP hD hS _ (lv_sub hl [2, 3, 4, 5, 6] rfl)
  · refine lv_aload_n hx hb dL_law_2045 rfl (lv_at hl 5 rfl) ?_
    refine lv_iconst (v := (0 : Int32)) hx hb dL_law_2046 (by decide) ?_
    refine va_lald hx hb hK hP ((cT k a6 t6).length + V.length) 3 (ouIdx _ _ _ _) rfl out_in dL_law_2047 ?_
    rw [show g (Int32.toNatClampNeg (0 : Int32)) = r6.toInt64 from hge c2]
    refine lv_iload hx hb dL_law_2048 (lv_at hl 0 rfl) ?_
    refine lv_i2l (v := r6.toInt64) hx hb dL_law_2050 rfl ?_
    refine lv_lcmp_same hx hb dL_law_2051 ?_
    refine lv_if_eq (tgt := 2057) hx hb dL_law_2052 (by decide) (fun _ => ?_) (fun c3 => absurd rfl c3)
    refine lv_goto (tgt := 2965) hx hb dL_law_2057 (by decide) ?_
    exact kk _ _ _ _ _ hq1 hP hD hS _ (lv_sub hl [2, 3, 4, 5, 6] rfl)
set_option maxRecDepth 100000 in
theorem cs_bored {p : Program} {l : Launch} {e : Env} {s : State} {m : MethodId} {below : List Frame} {meth : Method} {c : Code} {Q : State → Prop} {D : va_G} {k : Nat → ClassId} {Z : zZ} {b L : Nat} {xs : Nat → Int32} (hC : lwC p s m c D k Z b L xs) {a6 : Nat → Nat} {h ao : Nat} {i : Int32} (wo F : va_W) {t t6 : Tw} {p1 : Int32} (hp1 : sAt xs L i 1 p1) {rm : Room} {mc ms : Nat} {P1 : Int32 → (Nat → Int64) → va_W → Prop} {r6 : Int32} (hrc : rm.cells = mc) (hrs : rm.slots = ms) (hfr : rm.frames + 1 ≤ 8192 ∧ 8 + (4 + 11) + rm.locals ≤ 104096) (hM : CtXH l yX0_bored cX0_bored 4 (some .int) hhX0_bored rm Z D zCl wo [.ref h, .int (bz (zn p1)), .ref ao] (PWo k ao P1) (fun _ _ => False) mc ms) (hM6 : CtW l yX6_bored cX6_bored 5 (some .int) rX6_bored Z D zCl (cT k a6 t) [.ref (a6 0), .int (bz (zn p1))] (fun r' w' => r' = some (.int r6) ∧ w' = cT k a6 t6) 0 0) (hrel : ∀ x g V, P1 x g V → fX6_thrown t6 = some x ∧ (x = 0 → g0 g = r6.toInt64)) {H : Heap} {locs : List Loc} {cells slots : Nat} (hP : va_P D zCl (cT k a6 t ++ (wo ++ F)) H) (hD : va_D (fun q => s.heap.size ≤ q) (cT k a6 t ++ (wo ++ F))) (hS : va_S (fun q => s.heap.size ≤ q) s.heap H locs) (hcells : cells + mc ≤ 603072) (hslots : slots + ms ≤ 7190634) (kk : ∀ x g V H locs, P1 x g V → va_P D zCl (cT k a6 t6 ++ ((V ++ [ouC k ao g]) ++ F)) H → va_D (fun q => s.heap.size ≤ q) (cT k a6 t6 ++ ((V ++ [ouC k ao g]) ++ F)) → va_S (fun q => s.heap.size ≤ q) s.heap H locs → ∀ ls, lv_has ls 7 [(0, .ref b), (1, .ref h), (2, .ref (a6 0)), (3, .ref ao), (4, .int i)] → W p l e room_1 s m #[Value.ref b] below meth c H locs (cells + mc) (slots + ms) Q (F0 m 2965 ls [])) {ls : Array Slot} (hl : lv_has ls 7 [(0, .ref b), (1, .ref h), (2, .ref (a6 0)), (3, .ref ao), (4, .int i)]) : W p l e room_1 s m #[Value.ref b] below meth c H locs cells slots Q (F0 m 2060 ls []) := by
  obtain ⟨hx, hb, hml, hown, hts, hX, hbl, hOK, hz⟩ := hC
  have hK := hOK.1 _ _ _ hz
  have hbA : ¬ (fun q => s.heap.size ≤ q) b := Nat.not_le.mpr hbl
  have hA : ∀ q : Nat, s.heap.size ≤ q → (fun q => s.heap.size ≤ q) q := fun _ h => h
  refine lv_aload_n hx hb dL_law_2060 rfl (lv_at hl 1 rfl) ?_
  refine lw_arg (j := (1 : Int32)) hx hb hX hbl hbA hS hp1 (lv_at hl 0 rfl) (lv_at hl 4 rfl) dL_law_2061 dL_law_2062 dL_law_2064 (by decide) dL_law_2065 dL_law_2066 ?_
  refine lw_argz hx hb dL_law_2067 dL_law_2070 dL_law_2071 dL_law_2074 ?_
  refine lv_aload_n hx hb dL_law_2075 rfl (lv_at hl 3 rfl) ?_
  refine cXSH (cT k a6 t) wo F (As := [.ref h, .int (bz (zn p1)), .ref ao]) ⟨hx, hb, hml, hown, hts⟩ hOK hz hS hA hP hD hM (kX0_bored hts q1802 hrc hrs ⟨(by show rm.frames + 1 ≤ 8192; omega), (by show 8 + (4 + 11) + rm.locals ≤ 104096; omega)⟩) rfl hl.1 rfl (lv_room (Nat.le_of_ble_eq_true rfl)) ⟨hcells, hslots⟩ dL_law_2076 (fun E_ w_ ce_ q9_ H locs hq hP hD hS hce hcv hcl => hq.elim) (fun r_ w_ H locs hq hP hD hS => ?_)
  obtain ⟨x, g, V, hq1, rfl, rfl⟩ := hq
  refine lv_istore (lv' := [(5, .int x), (0, .ref b), (1, .ref h), (2, .ref (a6 0)), (3, .ref ao), (4, .int i)]) hx hb dL_law_2079 hl (by decide) rfl (fun ls hl => ?_)
  refine lv_aload_n hx hb dL_law_2081 rfl (lv_at hl 3 rfl) ?_
  refine lw_arg (j := (1 : Int32)) hx hb hX hbl hbA hS hp1 (lv_at hl 1 rfl) (lv_at hl 5 rfl) dL_law_2082 dL_law_2083 dL_law_2085 (by decide) dL_law_2086 dL_law_2087 ?_
  refine lw_argz hx hb dL_law_2088 dL_law_2091 dL_law_2092 dL_law_2095 ?_
  refine cWV [] (cT k a6 t) ((V ++ [ouC k ao g]) ++ F) (As := [.int (bz (zn p1))]) (ci := 0) ⟨hx, hb, hml, hown, hts⟩ hOK hz hS hA hP hD hM6 (kX6_bored hts q2383 rfl rfl ⟨Nat.le_of_ble_eq_true rfl, Nat.le_of_ble_eq_true rfl⟩) 0 rfl rfl rfl hl.1 rfl (lv_room (Nat.le_of_ble_eq_true rfl)) ⟨hcells, hslots⟩ dL_law_2096 (fun r_ w_6 H locs hq hP hD hS => ?_)
  obtain ⟨rfl, rfl⟩ := hq
  have hP : va_P D zCl (cT k a6 t6 ++ ((V ++ [ouC k ao g]) ++ F)) _ := hP
  have hD : va_D (fun q => s.heap.size ≤ q) (cT k a6 t6 ++ ((V ++ [ouC k ao g]) ++ F)) := hD
  refine lv_istore (lv' := [(6, .int r6), (5, .int x), (0, .ref b), (1, .ref h), (2, .ref (a6 0)), (3, .ref ao), (4, .int i)]) hx hb dL_law_2099 hl (by decide) rfl (fun ls hl => ?_)
  refine lv_aload_n hx hb dL_law_2101 rfl (lv_at hl 4 rfl) ?_
  obtain ⟨hth, hge⟩ := hrel _ _ _ hq1
  refine cRV (As := []) (ci := 0) ⟨hx, hb, hml, hown, hts⟩ hOK hz hS (zdropP hP) (mtX6_thrown l D k a6 Z hOK t6 x hth) (kX6_thrown hts q1969 rfl rfl ⟨Nat.le_of_ble_eq_true rfl, Nat.le_of_ble_eq_true rfl⟩) 0 rfl rfl rfl hl.1 rfl (lv_room (Nat.le_of_ble_eq_true rfl)) ⟨(by show cells + mc ≤ 603072; exact hcells), (by show slots + ms ≤ 7190634; exact hslots)⟩ dL_law_2102 ?_
  refine lv_iload hx hb dL_law_2105 (lv_at hl 1 rfl) ?_
  refine lv_icmp_eq (tgt := 2112) hx hb dL_law_2107 (by decide) (fun _ => ?_) (fun c1 => absurd rfl c1)
  refine lv_iload hx hb dL_law_2112 (lv_at hl 1 rfl) ?_
  refine lv_if_ne (tgt := 2129) hx hb dL_law_2114 (by decide) (fun _ => ?_) (fun c2 => ?_)
  · refine lv_goto (tgt := 2965) hx hb dL_law_2129 (by decide) ?_
    exact kk _ _ _ _ _ hq1 hP hD hS _ (lv_sub hl [2, 3, 4, 5, 6] rfl)
  · refine lv_aload_n hx hb dL_law_2117 rfl (lv_at hl 5 rfl) ?_
    refine lv_iconst (v := (0 : Int32)) hx hb dL_law_2118 (by decide) ?_
    refine va_lald hx hb hK hP ((cT k a6 t6).length + V.length) 3 (ouIdx _ _ _ _) rfl out_in dL_law_2119 ?_
    rw [show g (Int32.toNatClampNeg (0 : Int32)) = r6.toInt64 from hge c2]
    refine lv_iload hx hb dL_law_2120 (lv_at hl 0 rfl) ?_
    refine lv_i2l (v := r6.toInt64) hx hb dL_law_2122 rfl ?_
    refine lv_lcmp_same hx hb dL_law_2123 ?_
    refine lv_if_eq (tgt := 2129) hx hb dL_law_2124 (by decide) (fun _ => ?_) (fun c3 => absurd rfl c3)
    refine lv_goto (tgt := 2965) hx hb dL_law_2129 (by decide) ?_
    exact kk _ _ _ _ _ hq1 hP hD hS _ (lv_sub hl [2, 3, 4, 5, 6] rfl)
set_option maxRecDepth 100000 in
theorem cs_look {p : Program} {l : Launch} {e : Env} {s : State} {m : MethodId} {below : List Frame} {meth : Method} {c : Code} {Q : State → Prop} {D : va_G} {k : Nat → ClassId} {Z : zZ} {b L : Nat} {xs : Nat → Int32} (hC : lwC p s m c D k Z b L xs) {a6 : Nat → Nat} {h ao : Nat} {i : Int32} (wo F : va_W) {t t6 : Tw} {rm : Room} {mc ms : Nat} {P1 : Int32 → (Nat → Int64) → va_W → Prop} {r6 : Int32} (hrc : rm.cells = mc) (hrs : rm.slots = ms) (hfr : rm.frames + 1 ≤ 8192 ∧ 8 + (3 + 11) + rm.locals ≤ 104096) (hM : CtXH l yX0_look cX0_look 3 (some .int) hhX0_look rm Z D zCl wo [.ref h, .ref ao] (PWo k ao P1) (fun _ _ => False) mc ms) (hM6 : CtW l yX6_look cX6_look 7 (some .int) rX6_look Z D zCl (cT k a6 t) [.ref (a6 0)] (fun r' w' => r' = some (.int r6) ∧ w' = cT k a6 t6) 0 0) (hrel : ∀ x g V, P1 x g V → fX6_thrown t6 = some x ∧ (x = 0 → g0 g = r6.toInt64)) {H : Heap} {locs : List Loc} {cells slots : Nat} (hP : va_P D zCl (cT k a6 t ++ (wo ++ F)) H) (hD : va_D (fun q => s.heap.size ≤ q) (cT k a6 t ++ (wo ++ F))) (hS : va_S (fun q => s.heap.size ≤ q) s.heap H locs) (hcells : cells + mc ≤ 603072) (hslots : slots + ms ≤ 7190634) (kk : ∀ x g V H locs, P1 x g V → va_P D zCl (cT k a6 t6 ++ ((V ++ [ouC k ao g]) ++ F)) H → va_D (fun q => s.heap.size ≤ q) (cT k a6 t6 ++ ((V ++ [ouC k ao g]) ++ F)) → va_S (fun q => s.heap.size ≤ q) s.heap H locs → ∀ ls, lv_has ls 7 [(0, .ref b), (1, .ref h), (2, .ref (a6 0)), (3, .ref ao), (4, .int i)] → W p l e room_1 s m #[Value.ref b] below meth c H locs (cells + mc) (slots + ms) Q (F0 m 2965 ls [])) {ls : Array Slot} (hl : lv_has ls 7 [(0, .ref b), (1, .ref h), (2, .ref (a6 0)), (3, .ref ao), (4, .int i)]) : W p l e room_1 s m #[Value.ref b] below meth c H locs cells slots Q (F0 m 2132 ls []) := by
  obtain ⟨hx, hb, hml, hown, hts, hX, hbl, hOK, hz⟩ := hC
  have hK := hOK.1 _ _ _ hz
  have hbA : ¬ (fun q => s.heap.size ≤ q) b := Nat.not_le.mpr hbl
  have hA : ∀ q : Nat, s.heap.size ≤ q → (fun q => s.heap.size ≤ q) q := fun _ h => h
  refine lv_aload_n hx hb dL_law_2132 rfl (lv_at hl 1 rfl) ?_
  refine lv_aload_n hx hb dL_law_2133 rfl (lv_at hl 3 rfl) ?_
  refine cXSH (cT k a6 t) wo F (As := [.ref h, .ref ao]) ⟨hx, hb, hml, hown, hts⟩ hOK hz hS hA hP hD hM (kX0_look hts q1813 hrc hrs ⟨(by show rm.frames + 1 ≤ 8192; omega), (by show 8 + (3 + 11) + rm.locals ≤ 104096; omega)⟩) rfl hl.1 rfl (lv_room (Nat.le_of_ble_eq_true rfl)) ⟨hcells, hslots⟩ dL_law_2134 (fun E_ w_ ce_ q9_ H locs hq hP hD hS hce hcv hcl => hq.elim) (fun r_ w_ H locs hq hP hD hS => ?_)
  obtain ⟨x, g, V, hq1, rfl, rfl⟩ := hq
  refine lv_istore (lv' := [(5, .int x), (0, .ref b), (1, .ref h), (2, .ref (a6 0)), (3, .ref ao), (4, .int i)]) hx hb dL_law_2137 hl (by decide) rfl (fun ls hl => ?_)
  refine lv_aload_n hx hb dL_law_2139 rfl (lv_at hl 3 rfl) ?_
  refine cWV [] (cT k a6 t) ((V ++ [ouC k ao g]) ++ F) (As := []) (ci := 0) ⟨hx, hb, hml, hown, hts⟩ hOK hz hS hA hP hD hM6 (kX6_look hts q2391 rfl rfl ⟨Nat.le_of_ble_eq_true rfl, Nat.le_of_ble_eq_true rfl⟩) 0 rfl rfl rfl hl.1 rfl (lv_room (Nat.le_of_ble_eq_true rfl)) ⟨hcells, hslots⟩ dL_law_2140 (fun r_ w_6 H locs hq hP hD hS => ?_)
  obtain ⟨rfl, rfl⟩ := hq
  have hP : va_P D zCl (cT k a6 t6 ++ ((V ++ [ouC k ao g]) ++ F)) _ := hP
  have hD : va_D (fun q => s.heap.size ≤ q) (cT k a6 t6 ++ ((V ++ [ouC k ao g]) ++ F)) := hD
  refine lv_istore (lv' := [(6, .int r6), (5, .int x), (0, .ref b), (1, .ref h), (2, .ref (a6 0)), (3, .ref ao), (4, .int i)]) hx hb dL_law_2143 hl (by decide) rfl (fun ls hl => ?_)
  refine lv_aload_n hx hb dL_law_2145 rfl (lv_at hl 4 rfl) ?_
  obtain ⟨hth, hge⟩ := hrel _ _ _ hq1
  refine cRV (As := []) (ci := 0) ⟨hx, hb, hml, hown, hts⟩ hOK hz hS (zdropP hP) (mtX6_thrown l D k a6 Z hOK t6 x hth) (kX6_thrown hts q1969 rfl rfl ⟨Nat.le_of_ble_eq_true rfl, Nat.le_of_ble_eq_true rfl⟩) 0 rfl rfl rfl hl.1 rfl (lv_room (Nat.le_of_ble_eq_true rfl)) ⟨(by show cells + mc ≤ 603072; exact hcells), (by show slots + ms ≤ 7190634; exact hslots)⟩ dL_law_2146 ?_
  refine lv_iload hx hb dL_law_2149 (lv_at hl 1 rfl) ?_
  refine lv_icmp_eq (tgt := 2156) hx hb dL_law_2151 (by decide) (fun _ => ?_) (fun c1 => absurd rfl c1)
  refine lv_iload hx hb dL_law_2156 (lv_at hl 1 rfl) ?_
  refine lv_if_ne (tgt := 2173) hx hb dL_law_2158 (by decide) (fun _ => ?_) (fun c2 => ?_)
  · refine lv_goto (tgt := 2965) hx hb dL_law_2173 (by decide) ?_
    exact kk _ _ _ _ _ hq1 hP hD hS _ (lv_sub hl [2, 3, 4, 5, 6] rfl)
  · refine lv_aload_n hx hb dL_law_2161 rfl (lv_at hl 5 rfl) ?_
    refine lv_iconst (v := (0 : Int32)) hx hb dL_law_2162 (by decide) ?_
    refine va_lald hx hb hK hP ((cT k a6 t6).length + V.length) 3 (ouIdx _ _ _ _) rfl out_in dL_law_2163 ?_
    rw [show g (Int32.toNatClampNeg (0 : Int32)) = r6.toInt64 from hge c2]
    refine lv_iload hx hb dL_law_2164 (lv_at hl 0 rfl) ?_
    refine lv_i2l (v := r6.toInt64) hx hb dL_law_2166 rfl ?_
    refine lv_lcmp_same hx hb dL_law_2167 ?_
    refine lv_if_eq (tgt := 2173) hx hb dL_law_2168 (by decide) (fun _ => ?_) (fun c3 => absurd rfl c3)
    refine lv_goto (tgt := 2965) hx hb dL_law_2173 (by decide) ?_
    exact kk _ _ _ _ _ hq1 hP hD hS _ (lv_sub hl [2, 3, 4, 5, 6] rfl)
set_option maxRecDepth 100000 in
theorem cs_keenest {p : Program} {l : Launch} {e : Env} {s : State} {m : MethodId} {below : List Frame} {meth : Method} {c : Code} {Q : State → Prop} {D : va_G} {k : Nat → ClassId} {Z : zZ} {b L : Nat} {xs : Nat → Int32} (hC : lwC p s m c D k Z b L xs) {a6 : Nat → Nat} {h ao : Nat} {i : Int32} (wo F : va_W) {t t6 : Tw} {fs : List Value} (hws : wo[0]? = some (h, .inr (1, fs))) {rm : Room} {mc ms : Nat} {P1 : Int32 → va_W → Prop} {r6 : Int32} (hrc : rm.cells = mc) (hrs : rm.slots = ms) (hfr : rm.frames + 1 ≤ 8192 ∧ 8 + (3 + 11) + rm.locals ≤ 104096) (hM : CtW l yX1_keenest cX1_keenest 3 (some .int) rm Z D zCl wo [.ref h] (PXo P1) mc ms) (hM6 : CtW l yX6_keenest cX6_keenest 3 (some .int) rX6_keenest Z D zCl (cT k a6 t) [.ref (a6 0)] (fun r' w' => r' = some (.int r6) ∧ w' = cT k a6 t6) 0 0) (hrel : ∀ x V, P1 x V → x = r6) {H : Heap} {locs : List Loc} {cells slots : Nat} (hP : va_P D zCl (cT k a6 t ++ (wo ++ F)) H) (hD : va_D (fun q => s.heap.size ≤ q) (cT k a6 t ++ (wo ++ F))) (hS : va_S (fun q => s.heap.size ≤ q) s.heap H locs) (hcells : cells + mc ≤ 603072) (hslots : slots + ms ≤ 7190634) (kk : ∀ x V H locs, P1 x V → va_P D zCl (cT k a6 t6 ++ (V ++ F)) H → va_D (fun q => s.heap.size ≤ q) (cT k a6 t6 ++ (V ++ F)) → va_S (fun q => s.heap.size ≤ q) s.heap H locs → ∀ ls, lv_has ls 7 [(0, .ref b), (1, .ref h), (2, .ref (a6 0)), (3, .ref ao), (4, .int i)] → W p l e room_1 s m #[Value.ref b] below meth c H locs (cells + mc) (slots + ms) Q (F0 m 2965 ls [])) {ls : Array Slot} (hl : lv_has ls 7 [(0, .ref b), (1, .ref h), (2, .ref (a6 0)), (3, .ref ao), (4, .int i)]) : W p l e room_1 s m #[Value.ref b] below meth c H locs cells slots Q (F0 m 2176 ls []) := by
  obtain ⟨hx, hb, hml, hown, hts, hX, hbl, hOK, hz⟩ := hC
  have hK := hOK.1 _ _ _ hz
  have hbA : ¬ (fun q => s.heap.size ≤ q) b := Nat.not_le.mpr hbl
  have hA : ∀ q : Nat, s.heap.size ≤ q → (fun q => s.heap.size ≤ q) q := fun _ h => h
  refine lv_aload_n hx hb dL_law_2176 rfl (lv_at hl 1 rfl) ?_
  refine cWV (cT k a6 t) wo F (As := []) (ci := 1) ⟨hx, hb, hml, hown, hts⟩ hOK hz hS hA hP hD hM (kX1_keenest hts q682 hrc hrs ⟨(by show rm.frames + 1 ≤ 8192; omega), (by show 8 + (3 + 11) + rm.locals ≤ 104096; omega)⟩) 0 hws rfl rfl hl.1 rfl (lv_room (Nat.le_of_ble_eq_true rfl)) ⟨hcells, hslots⟩ dL_law_2177 (fun r_ w_ H locs hq hP hD hS => ?_)
  obtain ⟨x, hq1, rfl⟩ := hq
  refine lv_aload_n hx hb dL_law_2180 rfl (lv_at hl 2 rfl) ?_
  refine cWV [] (cT k a6 t) (w_ ++ F) (As := []) (ci := 0) ⟨hx, hb, hml, hown, hts⟩ hOK hz hS hA hP hD hM6 (kX6_keenest hts q2395 rfl rfl ⟨Nat.le_of_ble_eq_true rfl, Nat.le_of_ble_eq_true rfl⟩) 0 rfl rfl rfl hl.1 rfl (lv_room (Nat.le_of_ble_eq_true rfl)) ⟨hcells, hslots⟩ dL_law_2181 (fun r_ w_6 H locs hq hP hD hS => ?_)
  obtain ⟨rfl, rfl⟩ := hq
  have hP : va_P D zCl (cT k a6 t6 ++ (w_ ++ F)) _ := hP
  have hD : va_D (fun q => s.heap.size ≤ q) (cT k a6 t6 ++ (w_ ++ F)) := hD
  have hre := hrel _ _ hq1
  subst hre
  refine lv_icmp_eq (tgt := 2965) hx hb dL_law_2184 (by decide) (fun _ => ?_) (fun c1 => absurd rfl c1)
  exact kk _ _ _ _ hq1 hP hD hS _ hl
set_option maxRecDepth 100000 in
theorem cs_alike {p : Program} {l : Launch} {e : Env} {s : State} {m : MethodId} {below : List Frame} {meth : Method} {c : Code} {Q : State → Prop} {D : va_G} {k : Nat → ClassId} {Z : zZ} {b L : Nat} {xs : Nat → Int32} (hC : lwC p s m c D k Z b L xs) {a6 : Nat → Nat} {h ao : Nat} {i : Int32} (wo F : va_W) {t t6 : Tw} {fs : List Value} (hws : wo[0]? = some (h, .inr (1, fs))) {rm : Room} {mc ms : Nat} {P1 : Int32 → va_W → Prop} {r6 : Int32} (hrc : rm.cells = mc) (hrs : rm.slots = ms) (hfr : rm.frames + 1 ≤ 8192 ∧ 8 + (4 + 11) + rm.locals ≤ 104096) (hM : CtW l yX1_alike cX1_alike 4 (some .int) rm Z D zCl wo [.ref h] (PXo P1) mc ms) (hM6 : CtW l yX6_alike cX6_alike 4 (some .int) rX6_alike Z D zCl (cT k a6 t) [.ref (a6 0)] (fun r' w' => r' = some (.int r6) ∧ w' = cT k a6 t6) 0 0) (hrel : ∀ x V, P1 x V → x = r6) {H : Heap} {locs : List Loc} {cells slots : Nat} (hP : va_P D zCl (cT k a6 t ++ (wo ++ F)) H) (hD : va_D (fun q => s.heap.size ≤ q) (cT k a6 t ++ (wo ++ F))) (hS : va_S (fun q => s.heap.size ≤ q) s.heap H locs) (hcells : cells + mc ≤ 603072) (hslots : slots + ms ≤ 7190634) (kk : ∀ x V H locs, P1 x V → va_P D zCl (cT k a6 t6 ++ (V ++ F)) H → va_D (fun q => s.heap.size ≤ q) (cT k a6 t6 ++ (V ++ F)) → va_S (fun q => s.heap.size ≤ q) s.heap H locs → ∀ ls, lv_has ls 7 [(0, .ref b), (1, .ref h), (2, .ref (a6 0)), (3, .ref ao), (4, .int i)] → W p l e room_1 s m #[Value.ref b] below meth c H locs (cells + mc) (slots + ms) Q (F0 m 2965 ls [])) {ls : Array Slot} (hl : lv_has ls 7 [(0, .ref b), (1, .ref h), (2, .ref (a6 0)), (3, .ref ao), (4, .int i)]) : W p l e room_1 s m #[Value.ref b] below meth c H locs cells slots Q (F0 m 2189 ls []) := by
  obtain ⟨hx, hb, hml, hown, hts, hX, hbl, hOK, hz⟩ := hC
  have hK := hOK.1 _ _ _ hz
  have hbA : ¬ (fun q => s.heap.size ≤ q) b := Nat.not_le.mpr hbl
  have hA : ∀ q : Nat, s.heap.size ≤ q → (fun q => s.heap.size ≤ q) q := fun _ h => h
  refine lv_aload_n hx hb dL_law_2189 rfl (lv_at hl 1 rfl) ?_
  refine cWV (cT k a6 t) wo F (As := []) (ci := 1) ⟨hx, hb, hml, hown, hts⟩ hOK hz hS hA hP hD hM (kX1_alike hts q686 hrc hrs ⟨(by show rm.frames + 1 ≤ 8192; omega), (by show 8 + (4 + 11) + rm.locals ≤ 104096; omega)⟩) 0 hws rfl rfl hl.1 rfl (lv_room (Nat.le_of_ble_eq_true rfl)) ⟨hcells, hslots⟩ dL_law_2190 (fun r_ w_ H locs hq hP hD hS => ?_)
  obtain ⟨x, hq1, rfl⟩ := hq
  refine lv_aload_n hx hb dL_law_2193 rfl (lv_at hl 2 rfl) ?_
  refine cWV [] (cT k a6 t) (w_ ++ F) (As := []) (ci := 0) ⟨hx, hb, hml, hown, hts⟩ hOK hz hS hA hP hD hM6 (kX6_alike hts q2399 rfl rfl ⟨Nat.le_of_ble_eq_true rfl, Nat.le_of_ble_eq_true rfl⟩) 0 rfl rfl rfl hl.1 rfl (lv_room (Nat.le_of_ble_eq_true rfl)) ⟨hcells, hslots⟩ dL_law_2194 (fun r_ w_6 H locs hq hP hD hS => ?_)
  obtain ⟨rfl, rfl⟩ := hq
  have hP : va_P D zCl (cT k a6 t6 ++ (w_ ++ F)) _ := hP
  have hD : va_D (fun q => s.heap.size ≤ q) (cT k a6 t6 ++ (w_ ++ F)) := hD
  have hre := hrel _ _ hq1
  subst hre
  refine lv_icmp_eq (tgt := 2965) hx hb dL_law_2197 (by decide) (fun _ => ?_) (fun c1 => absurd rfl c1)
  exact kk _ _ _ _ hq1 hP hD hS _ hl
set_option maxRecDepth 100000 in
theorem cs_line {p : Program} {l : Launch} {e : Env} {s : State} {m : MethodId} {below : List Frame} {meth : Method} {c : Code} {Q : State → Prop} {D : va_G} {k : Nat → ClassId} {Z : zZ} {b L : Nat} {xs : Nat → Int32} (hC : lwC p s m c D k Z b L xs) {a6 : Nat → Nat} {h ao : Nat} {i : Int32} (wo F : va_W) {t t6 : Tw} {p1 : Int32} (hp1 : sAt xs L i 1 p1) {p2 : Int32} (hp2 : sAt xs L i 2 p2) {rm : Room} {mc ms : Nat} {P1 : Int32 → (Nat → Int64) → va_W → Prop} {r6 : Int32} (hrc : rm.cells = mc) (hrs : rm.slots = ms) (hfr : rm.frames + 1 ≤ 8192 ∧ 8 + (5 + 11) + rm.locals ≤ 104096) (hM : CtXH l yX0_line cX0_line 5 (some .int) hhX0_line rm Z D zCl wo [.ref h, .int p1, .int p2, .ref ao] (PWo k ao P1) (fun _ _ => False) mc ms) (hM6 : CtW l yX6_line cX6_line 7 (some .int) rX6_line Z D zCl (cT k a6 t) [.ref (a6 0), .int p1, .int p2] (fun r' w' => r' = some (.int r6) ∧ w' = cT k a6 t6) 0 0) (hrel : ∀ x g V, P1 x g V → fX6_thrown t6 = some x ∧ (x = 0 → g0 g = r6.toInt64)) {H : Heap} {locs : List Loc} {cells slots : Nat} (hP : va_P D zCl (cT k a6 t ++ (wo ++ F)) H) (hD : va_D (fun q => s.heap.size ≤ q) (cT k a6 t ++ (wo ++ F))) (hS : va_S (fun q => s.heap.size ≤ q) s.heap H locs) (hcells : cells + mc ≤ 603072) (hslots : slots + ms ≤ 7190634) (kk : ∀ x g V H locs, P1 x g V → va_P D zCl (cT k a6 t6 ++ ((V ++ [ouC k ao g]) ++ F)) H → va_D (fun q => s.heap.size ≤ q) (cT k a6 t6 ++ ((V ++ [ouC k ao g]) ++ F)) → va_S (fun q => s.heap.size ≤ q) s.heap H locs → ∀ ls, lv_has ls 7 [(0, .ref b), (1, .ref h), (2, .ref (a6 0)), (3, .ref ao), (4, .int i)] → W p l e room_1 s m #[Value.ref b] below meth c H locs (cells + mc) (slots + ms) Q (F0 m 2965 ls [])) {ls : Array Slot} (hl : lv_has ls 7 [(0, .ref b), (1, .ref h), (2, .ref (a6 0)), (3, .ref ao), (4, .int i)]) : W p l e room_1 s m #[Value.ref b] below meth c H locs cells slots Q (F0 m 2202 ls []) := by
  obtain ⟨hx, hb, hml, hown, hts, hX, hbl, hOK, hz⟩ := hC
  have hK := hOK.1 _ _ _ hz
  have hbA : ¬ (fun q => s.heap.size ≤ q) b := Nat.not_le.mpr hbl
  have hA : ∀ q : Nat, s.heap.size ≤ q → (fun q => s.heap.size ≤ q) q := fun _ h => h
  refine lv_aload_n hx hb dL_law_2202 rfl (lv_at hl 1 rfl) ?_
  refine lw_arg (j := (1 : Int32)) hx hb hX hbl hbA hS hp1 (lv_at hl 0 rfl) (lv_at hl 4 rfl) dL_law_2203 dL_law_2204 dL_law_2206 (by decide) dL_law_2207 dL_law_2208 ?_
  refine lw_arg (j := (2 : Int32)) hx hb hX hbl hbA hS hp2 (lv_at hl 0 rfl) (lv_at hl 4 rfl) dL_law_2209 dL_law_2210 dL_law_2212 (by decide) dL_law_2213 dL_law_2214 ?_
  refine lv_aload_n hx hb dL_law_2215 rfl (lv_at hl 3 rfl) ?_
  refine cXSH (cT k a6 t) wo F (As := [.ref h, .int p1, .int p2, .ref ao]) ⟨hx, hb, hml, hown, hts⟩ hOK hz hS hA hP hD hM (kX0_line hts q1820 hrc hrs ⟨(by show rm.frames + 1 ≤ 8192; omega), (by show 8 + (5 + 11) + rm.locals ≤ 104096; omega)⟩) rfl hl.1 rfl (lv_room (Nat.le_of_ble_eq_true rfl)) ⟨hcells, hslots⟩ dL_law_2216 (fun E_ w_ ce_ q9_ H locs hq hP hD hS hce hcv hcl => hq.elim) (fun r_ w_ H locs hq hP hD hS => ?_)
  obtain ⟨x, g, V, hq1, rfl, rfl⟩ := hq
  refine lv_istore (lv' := [(5, .int x), (0, .ref b), (1, .ref h), (2, .ref (a6 0)), (3, .ref ao), (4, .int i)]) hx hb dL_law_2219 hl (by decide) rfl (fun ls hl => ?_)
  refine lv_aload_n hx hb dL_law_2221 rfl (lv_at hl 3 rfl) ?_
  refine lw_arg (j := (1 : Int32)) hx hb hX hbl hbA hS hp1 (lv_at hl 1 rfl) (lv_at hl 5 rfl) dL_law_2222 dL_law_2223 dL_law_2225 (by decide) dL_law_2226 dL_law_2227 ?_
  refine lw_arg (j := (2 : Int32)) hx hb hX hbl hbA hS hp2 (lv_at hl 1 rfl) (lv_at hl 5 rfl) dL_law_2228 dL_law_2229 dL_law_2231 (by decide) dL_law_2232 dL_law_2233 ?_
  refine cWV [] (cT k a6 t) ((V ++ [ouC k ao g]) ++ F) (As := [.int p1, .int p2]) (ci := 0) ⟨hx, hb, hml, hown, hts⟩ hOK hz hS hA hP hD hM6 (kX6_line hts q2403 rfl rfl ⟨Nat.le_of_ble_eq_true rfl, Nat.le_of_ble_eq_true rfl⟩) 0 rfl rfl rfl hl.1 rfl (lv_room (Nat.le_of_ble_eq_true rfl)) ⟨hcells, hslots⟩ dL_law_2234 (fun r_ w_6 H locs hq hP hD hS => ?_)
  obtain ⟨rfl, rfl⟩ := hq
  have hP : va_P D zCl (cT k a6 t6 ++ ((V ++ [ouC k ao g]) ++ F)) _ := hP
  have hD : va_D (fun q => s.heap.size ≤ q) (cT k a6 t6 ++ ((V ++ [ouC k ao g]) ++ F)) := hD
  refine lv_istore (lv' := [(6, .int r6), (5, .int x), (0, .ref b), (1, .ref h), (2, .ref (a6 0)), (3, .ref ao), (4, .int i)]) hx hb dL_law_2237 hl (by decide) rfl (fun ls hl => ?_)
  refine lv_aload_n hx hb dL_law_2239 rfl (lv_at hl 4 rfl) ?_
  obtain ⟨hth, hge⟩ := hrel _ _ _ hq1
  refine cRV (As := []) (ci := 0) ⟨hx, hb, hml, hown, hts⟩ hOK hz hS (zdropP hP) (mtX6_thrown l D k a6 Z hOK t6 x hth) (kX6_thrown hts q1969 rfl rfl ⟨Nat.le_of_ble_eq_true rfl, Nat.le_of_ble_eq_true rfl⟩) 0 rfl rfl rfl hl.1 rfl (lv_room (Nat.le_of_ble_eq_true rfl)) ⟨(by show cells + mc ≤ 603072; exact hcells), (by show slots + ms ≤ 7190634; exact hslots)⟩ dL_law_2240 ?_
  refine lv_iload hx hb dL_law_2243 (lv_at hl 1 rfl) ?_
  refine lv_icmp_eq (tgt := 2250) hx hb dL_law_2245 (by decide) (fun _ => ?_) (fun c1 => absurd rfl c1)
  refine lv_iload hx hb dL_law_2250 (lv_at hl 1 rfl) ?_
  refine lv_if_ne (tgt := 2267) hx hb dL_law_2252 (by decide) (fun _ => ?_) (fun c2 => ?_)
  · refine lv_goto (tgt := 2965) hx hb dL_law_2267 (by decide) ?_
    exact kk _ _ _ _ _ hq1 hP hD hS _ (lv_sub hl [2, 3, 4, 5, 6] rfl)
  · refine lv_aload_n hx hb dL_law_2255 rfl (lv_at hl 5 rfl) ?_
    refine lv_iconst (v := (0 : Int32)) hx hb dL_law_2256 (by decide) ?_
    refine va_lald hx hb hK hP ((cT k a6 t6).length + V.length) 3 (ouIdx _ _ _ _) rfl out_in dL_law_2257 ?_
    rw [show g (Int32.toNatClampNeg (0 : Int32)) = r6.toInt64 from hge c2]
    refine lv_iload hx hb dL_law_2258 (lv_at hl 0 rfl) ?_
    refine lv_i2l (v := r6.toInt64) hx hb dL_law_2260 rfl ?_
    refine lv_lcmp_same hx hb dL_law_2261 ?_
    refine lv_if_eq (tgt := 2267) hx hb dL_law_2262 (by decide) (fun _ => ?_) (fun c3 => absurd rfl c3)
    refine lv_goto (tgt := 2965) hx hb dL_law_2267 (by decide) ?_
    exact kk _ _ _ _ _ hq1 hP hD hS _ (lv_sub hl [2, 3, 4, 5, 6] rfl)
set_option maxRecDepth 100000 in
theorem cs_well {p : Program} {l : Launch} {e : Env} {s : State} {m : MethodId} {below : List Frame} {meth : Method} {c : Code} {Q : State → Prop} {D : va_G} {k : Nat → ClassId} {Z : zZ} {b L : Nat} {xs : Nat → Int32} (hC : lwC p s m c D k Z b L xs) {a6 : Nat → Nat} {h ao : Nat} {i : Int32} (wo F : va_W) {t t6 : Tw} {fs : List Value} (hws : wo[0]? = some (h, .inr (1, fs))) {rm : Room} {mc ms : Nat} {P1 : Int32 → va_W → Prop} {r6 : Int32} (hrc : rm.cells = mc) (hrs : rm.slots = ms) (hfr : rm.frames + 1 ≤ 8192 ∧ 8 + (5 + 11) + rm.locals ≤ 104096) (hM : CtW l yX1_well cX1_well 5 (some .int) rm Z D zCl wo [.ref h] (PXo P1) mc ms) (hM6 : CtW l yX6_well cX6_well 4 (some .int) rX6_well Z D zCl (cT k a6 t) [.ref (a6 0)] (fun r' w' => r' = some (.int r6) ∧ w' = cT k a6 t6) 0 0) (hrel : ∀ x V, P1 x V → x = r6) {H : Heap} {locs : List Loc} {cells slots : Nat} (hP : va_P D zCl (cT k a6 t ++ (wo ++ F)) H) (hD : va_D (fun q => s.heap.size ≤ q) (cT k a6 t ++ (wo ++ F))) (hS : va_S (fun q => s.heap.size ≤ q) s.heap H locs) (hcells : cells + mc ≤ 603072) (hslots : slots + ms ≤ 7190634) (kk : ∀ x V H locs, P1 x V → va_P D zCl (cT k a6 t6 ++ (V ++ F)) H → va_D (fun q => s.heap.size ≤ q) (cT k a6 t6 ++ (V ++ F)) → va_S (fun q => s.heap.size ≤ q) s.heap H locs → ∀ ls, lv_has ls 7 [(0, .ref b), (1, .ref h), (2, .ref (a6 0)), (3, .ref ao), (4, .int i)] → W p l e room_1 s m #[Value.ref b] below meth c H locs (cells + mc) (slots + ms) Q (F0 m 2965 ls [])) {ls : Array Slot} (hl : lv_has ls 7 [(0, .ref b), (1, .ref h), (2, .ref (a6 0)), (3, .ref ao), (4, .int i)]) : W p l e room_1 s m #[Value.ref b] below meth c H locs cells slots Q (F0 m 2270 ls []) := by
  obtain ⟨hx, hb, hml, hown, hts, hX, hbl, hOK, hz⟩ := hC
  have hK := hOK.1 _ _ _ hz
  have hbA : ¬ (fun q => s.heap.size ≤ q) b := Nat.not_le.mpr hbl
  have hA : ∀ q : Nat, s.heap.size ≤ q → (fun q => s.heap.size ≤ q) q := fun _ h => h
  refine lv_aload_n hx hb dL_law_2270 rfl (lv_at hl 1 rfl) ?_
  refine cWV (cT k a6 t) wo F (As := []) (ci := 1) ⟨hx, hb, hml, hown, hts⟩ hOK hz hS hA hP hD hM (kX1_well hts q690 hrc hrs ⟨(by show rm.frames + 1 ≤ 8192; omega), (by show 8 + (5 + 11) + rm.locals ≤ 104096; omega)⟩) 0 hws rfl rfl hl.1 rfl (lv_room (Nat.le_of_ble_eq_true rfl)) ⟨hcells, hslots⟩ dL_law_2271 (fun r_ w_ H locs hq hP hD hS => ?_)
  obtain ⟨x, hq1, rfl⟩ := hq
  refine lv_aload_n hx hb dL_law_2274 rfl (lv_at hl 2 rfl) ?_
  refine cWV [] (cT k a6 t) (w_ ++ F) (As := []) (ci := 0) ⟨hx, hb, hml, hown, hts⟩ hOK hz hS hA hP hD hM6 (kX6_well hts q2407 rfl rfl ⟨Nat.le_of_ble_eq_true rfl, Nat.le_of_ble_eq_true rfl⟩) 0 rfl rfl rfl hl.1 rfl (lv_room (Nat.le_of_ble_eq_true rfl)) ⟨hcells, hslots⟩ dL_law_2275 (fun r_ w_6 H locs hq hP hD hS => ?_)
  obtain ⟨rfl, rfl⟩ := hq
  have hP : va_P D zCl (cT k a6 t6 ++ (w_ ++ F)) _ := hP
  have hD : va_D (fun q => s.heap.size ≤ q) (cT k a6 t6 ++ (w_ ++ F)) := hD
  have hre := hrel _ _ hq1
  subst hre
  refine lv_icmp_eq (tgt := 2965) hx hb dL_law_2278 (by decide) (fun _ => ?_) (fun c1 => absurd rfl c1)
  exact kk _ _ _ _ hq1 hP hD hS _ hl
set_option maxRecDepth 100000 in
theorem cs_pass {p : Program} {l : Launch} {e : Env} {s : State} {m : MethodId} {below : List Frame} {meth : Method} {c : Code} {Q : State → Prop} {D : va_G} {k : Nat → ClassId} {Z : zZ} {b L : Nat} {xs : Nat → Int32} (hC : lwC p s m c D k Z b L xs) {a6 : Nat → Nat} {h ao : Nat} {i : Int32} (wo F : va_W) {t t6 : Tw} {p1 : Int32} (hp1 : sAt xs L i 1 p1) {p2 : Int32} (hp2 : sAt xs L i 2 p2) {rm : Room} {mc ms : Nat} {P1 : Int32 → (Nat → Int64) → va_W → Prop} {r6 : Int32} (hrc : rm.cells = mc) (hrs : rm.slots = ms) (hfr : rm.frames + 1 ≤ 8192 ∧ 8 + (5 + 11) + rm.locals ≤ 104096) (hM : CtXH l yX0_pass cX0_pass 5 (some .int) hhX0_pass rm Z D zCl wo [.ref h, .int p1, .int p2, .ref ao] (PWo k ao P1) (fun _ _ => False) mc ms) (hM6 : CtW l yX6_pass cX6_pass 4 (some .int) rX6_pass Z D zCl (cT k a6 t) [.ref (a6 0), .int p1, .int p2] (fun r' w' => r' = some (.int r6) ∧ w' = cT k a6 t6) 0 0) (hrel : ∀ x g V, P1 x g V → fX6_thrown t6 = some x ∧ (x = 0 → g0 g = r6.toInt64)) {H : Heap} {locs : List Loc} {cells slots : Nat} (hP : va_P D zCl (cT k a6 t ++ (wo ++ F)) H) (hD : va_D (fun q => s.heap.size ≤ q) (cT k a6 t ++ (wo ++ F))) (hS : va_S (fun q => s.heap.size ≤ q) s.heap H locs) (hcells : cells + mc ≤ 603072) (hslots : slots + ms ≤ 7190634) (kk : ∀ x g V H locs, P1 x g V → va_P D zCl (cT k a6 t6 ++ ((V ++ [ouC k ao g]) ++ F)) H → va_D (fun q => s.heap.size ≤ q) (cT k a6 t6 ++ ((V ++ [ouC k ao g]) ++ F)) → va_S (fun q => s.heap.size ≤ q) s.heap H locs → ∀ ls, lv_has ls 7 [(0, .ref b), (1, .ref h), (2, .ref (a6 0)), (3, .ref ao), (4, .int i)] → W p l e room_1 s m #[Value.ref b] below meth c H locs (cells + mc) (slots + ms) Q (F0 m 2965 ls [])) {ls : Array Slot} (hl : lv_has ls 7 [(0, .ref b), (1, .ref h), (2, .ref (a6 0)), (3, .ref ao), (4, .int i)]) : W p l e room_1 s m #[Value.ref b] below meth c H locs cells slots Q (F0 m 2283 ls []) := by
  obtain ⟨hx, hb, hml, hown, hts, hX, hbl, hOK, hz⟩ := hC
  have hK := hOK.1 _ _ _ hz
  have hbA : ¬ (fun q => s.heap.size ≤ q) b := Nat.not_le.mpr hbl
  have hA : ∀ q : Nat, s.heap.size ≤ q → (fun q => s.heap.size ≤ q) q := fun _ h => h
  refine lv_aload_n hx hb dL_law_2283 rfl (lv_at hl 1 rfl) ?_
  refine lw_arg (j := (1 : Int32)) hx hb hX hbl hbA hS hp1 (lv_at hl 0 rfl) (lv_at hl 4 rfl) dL_law_2284 dL_law_2285 dL_law_2287 (by decide) dL_law_2288 dL_law_2289 ?_
  refine lw_arg (j := (2 : Int32)) hx hb hX hbl hbA hS hp2 (lv_at hl 0 rfl) (lv_at hl 4 rfl) dL_law_2290 dL_law_2291 dL_law_2293 (by decide) dL_law_2294 dL_law_2295 ?_
  refine lv_aload_n hx hb dL_law_2296 rfl (lv_at hl 3 rfl) ?_
  refine cXSH (cT k a6 t) wo F (As := [.ref h, .int p1, .int p2, .ref ao]) ⟨hx, hb, hml, hown, hts⟩ hOK hz hS hA hP hD hM (kX0_pass hts q1827 hrc hrs ⟨(by show rm.frames + 1 ≤ 8192; omega), (by show 8 + (5 + 11) + rm.locals ≤ 104096; omega)⟩) rfl hl.1 rfl (lv_room (Nat.le_of_ble_eq_true rfl)) ⟨hcells, hslots⟩ dL_law_2297 (fun E_ w_ ce_ q9_ H locs hq hP hD hS hce hcv hcl => hq.elim) (fun r_ w_ H locs hq hP hD hS => ?_)
  obtain ⟨x, g, V, hq1, rfl, rfl⟩ := hq
  refine lv_istore (lv' := [(5, .int x), (0, .ref b), (1, .ref h), (2, .ref (a6 0)), (3, .ref ao), (4, .int i)]) hx hb dL_law_2300 hl (by decide) rfl (fun ls hl => ?_)
  refine lv_aload_n hx hb dL_law_2302 rfl (lv_at hl 3 rfl) ?_
  refine lw_arg (j := (1 : Int32)) hx hb hX hbl hbA hS hp1 (lv_at hl 1 rfl) (lv_at hl 5 rfl) dL_law_2303 dL_law_2304 dL_law_2306 (by decide) dL_law_2307 dL_law_2308 ?_
  refine lw_arg (j := (2 : Int32)) hx hb hX hbl hbA hS hp2 (lv_at hl 1 rfl) (lv_at hl 5 rfl) dL_law_2309 dL_law_2310 dL_law_2312 (by decide) dL_law_2313 dL_law_2314 ?_
  refine cWV [] (cT k a6 t) ((V ++ [ouC k ao g]) ++ F) (As := [.int p1, .int p2]) (ci := 0) ⟨hx, hb, hml, hown, hts⟩ hOK hz hS hA hP hD hM6 (kX6_pass hts q2411 rfl rfl ⟨Nat.le_of_ble_eq_true rfl, Nat.le_of_ble_eq_true rfl⟩) 0 rfl rfl rfl hl.1 rfl (lv_room (Nat.le_of_ble_eq_true rfl)) ⟨hcells, hslots⟩ dL_law_2315 (fun r_ w_6 H locs hq hP hD hS => ?_)
  obtain ⟨rfl, rfl⟩ := hq
  have hP : va_P D zCl (cT k a6 t6 ++ ((V ++ [ouC k ao g]) ++ F)) _ := hP
  have hD : va_D (fun q => s.heap.size ≤ q) (cT k a6 t6 ++ ((V ++ [ouC k ao g]) ++ F)) := hD
  refine lv_istore (lv' := [(6, .int r6), (5, .int x), (0, .ref b), (1, .ref h), (2, .ref (a6 0)), (3, .ref ao), (4, .int i)]) hx hb dL_law_2318 hl (by decide) rfl (fun ls hl => ?_)
  refine lv_aload_n hx hb dL_law_2320 rfl (lv_at hl 4 rfl) ?_
  obtain ⟨hth, hge⟩ := hrel _ _ _ hq1
  refine cRV (As := []) (ci := 0) ⟨hx, hb, hml, hown, hts⟩ hOK hz hS (zdropP hP) (mtX6_thrown l D k a6 Z hOK t6 x hth) (kX6_thrown hts q1969 rfl rfl ⟨Nat.le_of_ble_eq_true rfl, Nat.le_of_ble_eq_true rfl⟩) 0 rfl rfl rfl hl.1 rfl (lv_room (Nat.le_of_ble_eq_true rfl)) ⟨(by show cells + mc ≤ 603072; exact hcells), (by show slots + ms ≤ 7190634; exact hslots)⟩ dL_law_2321 ?_
  refine lv_iload hx hb dL_law_2324 (lv_at hl 1 rfl) ?_
  refine lv_icmp_eq (tgt := 2331) hx hb dL_law_2326 (by decide) (fun _ => ?_) (fun c1 => absurd rfl c1)
  refine lv_iload hx hb dL_law_2331 (lv_at hl 1 rfl) ?_
  refine lv_if_ne (tgt := 2348) hx hb dL_law_2333 (by decide) (fun _ => ?_) (fun c2 => ?_)
  · refine lv_goto (tgt := 2965) hx hb dL_law_2348 (by decide) ?_
    exact kk _ _ _ _ _ hq1 hP hD hS _ (lv_sub hl [2, 3, 4, 5, 6] rfl)
  · refine lv_aload_n hx hb dL_law_2336 rfl (lv_at hl 5 rfl) ?_
    refine lv_iconst (v := (0 : Int32)) hx hb dL_law_2337 (by decide) ?_
    refine va_lald hx hb hK hP ((cT k a6 t6).length + V.length) 3 (ouIdx _ _ _ _) rfl out_in dL_law_2338 ?_
    rw [show g (Int32.toNatClampNeg (0 : Int32)) = r6.toInt64 from hge c2]
    refine lv_iload hx hb dL_law_2339 (lv_at hl 0 rfl) ?_
    refine lv_i2l (v := r6.toInt64) hx hb dL_law_2341 rfl ?_
    refine lv_lcmp_same hx hb dL_law_2342 ?_
    refine lv_if_eq (tgt := 2348) hx hb dL_law_2343 (by decide) (fun _ => ?_) (fun c3 => absurd rfl c3)
    refine lv_goto (tgt := 2965) hx hb dL_law_2348 (by decide) ?_
    exact kk _ _ _ _ _ hq1 hP hD hS _ (lv_sub hl [2, 3, 4, 5, 6] rfl)
set_option maxRecDepth 100000 in
theorem cs_crowd {p : Program} {l : Launch} {e : Env} {s : State} {m : MethodId} {below : List Frame} {meth : Method} {c : Code} {Q : State → Prop} {D : va_G} {k : Nat → ClassId} {Z : zZ} {b L : Nat} {xs : Nat → Int32} (hC : lwC p s m c D k Z b L xs) {a6 : Nat → Nat} {h ao : Nat} {i : Int32} (wo F : va_W) {t t6 : Tw} {fs : List Value} (hws : wo[0]? = some (h, .inr (1, fs))) {rm : Room} {mc ms : Nat} {P1 : Int32 → va_W → Prop} {r6 : Int32} (hrc : rm.cells = mc) (hrs : rm.slots = ms) (hfr : rm.frames + 1 ≤ 8192 ∧ 8 + (5 + 11) + rm.locals ≤ 104096) (hM : CtW l yX1_crowd cX1_crowd 5 (some .int) rm Z D zCl wo [.ref h] (PXo P1) mc ms) (hM6 : CtW l yX6_crowd cX6_crowd 4 (some .int) rX6_crowd Z D zCl (cT k a6 t) [.ref (a6 0)] (fun r' w' => r' = some (.int r6) ∧ w' = cT k a6 t6) 0 0) (hrel : ∀ x V, P1 x V → x = r6) {H : Heap} {locs : List Loc} {cells slots : Nat} (hP : va_P D zCl (cT k a6 t ++ (wo ++ F)) H) (hD : va_D (fun q => s.heap.size ≤ q) (cT k a6 t ++ (wo ++ F))) (hS : va_S (fun q => s.heap.size ≤ q) s.heap H locs) (hcells : cells + mc ≤ 603072) (hslots : slots + ms ≤ 7190634) (kk : ∀ x V H locs, P1 x V → va_P D zCl (cT k a6 t6 ++ (V ++ F)) H → va_D (fun q => s.heap.size ≤ q) (cT k a6 t6 ++ (V ++ F)) → va_S (fun q => s.heap.size ≤ q) s.heap H locs → ∀ ls, lv_has ls 7 [(0, .ref b), (1, .ref h), (2, .ref (a6 0)), (3, .ref ao), (4, .int i)] → W p l e room_1 s m #[Value.ref b] below meth c H locs (cells + mc) (slots + ms) Q (F0 m 2965 ls [])) {ls : Array Slot} (hl : lv_has ls 7 [(0, .ref b), (1, .ref h), (2, .ref (a6 0)), (3, .ref ao), (4, .int i)]) : W p l e room_1 s m #[Value.ref b] below meth c H locs cells slots Q (F0 m 2351 ls []) := by
  obtain ⟨hx, hb, hml, hown, hts, hX, hbl, hOK, hz⟩ := hC
  have hK := hOK.1 _ _ _ hz
  have hbA : ¬ (fun q => s.heap.size ≤ q) b := Nat.not_le.mpr hbl
  have hA : ∀ q : Nat, s.heap.size ≤ q → (fun q => s.heap.size ≤ q) q := fun _ h => h
  refine lv_aload_n hx hb dL_law_2351 rfl (lv_at hl 1 rfl) ?_
  refine cWV (cT k a6 t) wo F (As := []) (ci := 1) ⟨hx, hb, hml, hown, hts⟩ hOK hz hS hA hP hD hM (kX1_crowd hts q698 hrc hrs ⟨(by show rm.frames + 1 ≤ 8192; omega), (by show 8 + (5 + 11) + rm.locals ≤ 104096; omega)⟩) 0 hws rfl rfl hl.1 rfl (lv_room (Nat.le_of_ble_eq_true rfl)) ⟨hcells, hslots⟩ dL_law_2352 (fun r_ w_ H locs hq hP hD hS => ?_)
  obtain ⟨x, hq1, rfl⟩ := hq
  refine lv_aload_n hx hb dL_law_2355 rfl (lv_at hl 2 rfl) ?_
  refine cWV [] (cT k a6 t) (w_ ++ F) (As := []) (ci := 0) ⟨hx, hb, hml, hown, hts⟩ hOK hz hS hA hP hD hM6 (kX6_crowd hts q2419 rfl rfl ⟨Nat.le_of_ble_eq_true rfl, Nat.le_of_ble_eq_true rfl⟩) 0 rfl rfl rfl hl.1 rfl (lv_room (Nat.le_of_ble_eq_true rfl)) ⟨hcells, hslots⟩ dL_law_2356 (fun r_ w_6 H locs hq hP hD hS => ?_)
  obtain ⟨rfl, rfl⟩ := hq
  have hP : va_P D zCl (cT k a6 t6 ++ (w_ ++ F)) _ := hP
  have hD : va_D (fun q => s.heap.size ≤ q) (cT k a6 t6 ++ (w_ ++ F)) := hD
  have hre := hrel _ _ hq1
  subst hre
  refine lv_icmp_eq (tgt := 2965) hx hb dL_law_2359 (by decide) (fun _ => ?_) (fun c1 => absurd rfl c1)
  exact kk _ _ _ _ hq1 hP hD hS _ hl
set_option maxRecDepth 100000 in
theorem cs_locked {p : Program} {l : Launch} {e : Env} {s : State} {m : MethodId} {below : List Frame} {meth : Method} {c : Code} {Q : State → Prop} {D : va_G} {k : Nat → ClassId} {Z : zZ} {b L : Nat} {xs : Nat → Int32} (hC : lwC p s m c D k Z b L xs) {a6 : Nat → Nat} {h ao : Nat} {i : Int32} (wo F : va_W) {t t6 : Tw} {fs : List Value} (hws : wo[0]? = some (h, .inr (1, fs))) {rm : Room} {mc ms : Nat} {P1 : Int32 → va_W → Prop} {r6 : Int32} (hrc : rm.cells = mc) (hrs : rm.slots = ms) (hfr : rm.frames + 1 ≤ 8192 ∧ 8 + (3 + 11) + rm.locals ≤ 104096) (hM : CtW l yX1_locked cX1_locked 3 (some .int) rm Z D zCl wo [.ref h] (PXo P1) mc ms) (hM6 : CtW l yX6_locked cX6_locked 3 (some .int) rX6_locked Z D zCl (cT k a6 t) [.ref (a6 0)] (fun r' w' => r' = some (.int r6) ∧ w' = cT k a6 t6) 0 0) (hrel : ∀ x V, P1 x V → x = r6) {H : Heap} {locs : List Loc} {cells slots : Nat} (hP : va_P D zCl (cT k a6 t ++ (wo ++ F)) H) (hD : va_D (fun q => s.heap.size ≤ q) (cT k a6 t ++ (wo ++ F))) (hS : va_S (fun q => s.heap.size ≤ q) s.heap H locs) (hcells : cells + mc ≤ 603072) (hslots : slots + ms ≤ 7190634) (kk : ∀ x V H locs, P1 x V → va_P D zCl (cT k a6 t6 ++ (V ++ F)) H → va_D (fun q => s.heap.size ≤ q) (cT k a6 t6 ++ (V ++ F)) → va_S (fun q => s.heap.size ≤ q) s.heap H locs → ∀ ls, lv_has ls 7 [(0, .ref b), (1, .ref h), (2, .ref (a6 0)), (3, .ref ao), (4, .int i)] → W p l e room_1 s m #[Value.ref b] below meth c H locs (cells + mc) (slots + ms) Q (F0 m 2965 ls [])) {ls : Array Slot} (hl : lv_has ls 7 [(0, .ref b), (1, .ref h), (2, .ref (a6 0)), (3, .ref ao), (4, .int i)]) : W p l e room_1 s m #[Value.ref b] below meth c H locs cells slots Q (F0 m 2364 ls []) := by
  obtain ⟨hx, hb, hml, hown, hts, hX, hbl, hOK, hz⟩ := hC
  have hK := hOK.1 _ _ _ hz
  have hbA : ¬ (fun q => s.heap.size ≤ q) b := Nat.not_le.mpr hbl
  have hA : ∀ q : Nat, s.heap.size ≤ q → (fun q => s.heap.size ≤ q) q := fun _ h => h
  refine lv_aload_n hx hb dL_law_2364 rfl (lv_at hl 1 rfl) ?_
  refine cWV (cT k a6 t) wo F (As := []) (ci := 1) ⟨hx, hb, hml, hown, hts⟩ hOK hz hS hA hP hD hM (kX1_locked hts q629 hrc hrs ⟨(by show rm.frames + 1 ≤ 8192; omega), (by show 8 + (3 + 11) + rm.locals ≤ 104096; omega)⟩) 0 hws rfl rfl hl.1 rfl (lv_room (Nat.le_of_ble_eq_true rfl)) ⟨hcells, hslots⟩ dL_law_2365 (fun r_ w_ H locs hq hP hD hS => ?_)
  obtain ⟨x, hq1, rfl⟩ := hq
  refine lv_aload_n hx hb dL_law_2368 rfl (lv_at hl 2 rfl) ?_
  refine cWV [] (cT k a6 t) (w_ ++ F) (As := []) (ci := 0) ⟨hx, hb, hml, hown, hts⟩ hOK hz hS hA hP hD hM6 (kX6_locked hts q2423 rfl rfl ⟨Nat.le_of_ble_eq_true rfl, Nat.le_of_ble_eq_true rfl⟩) 0 rfl rfl rfl hl.1 rfl (lv_room (Nat.le_of_ble_eq_true rfl)) ⟨hcells, hslots⟩ dL_law_2369 (fun r_ w_6 H locs hq hP hD hS => ?_)
  obtain ⟨rfl, rfl⟩ := hq
  have hP : va_P D zCl (cT k a6 t6 ++ (w_ ++ F)) _ := hP
  have hD : va_D (fun q => s.heap.size ≤ q) (cT k a6 t6 ++ (w_ ++ F)) := hD
  have hre := hrel _ _ hq1
  subst hre
  refine lv_icmp_eq (tgt := 2965) hx hb dL_law_2372 (by decide) (fun _ => ?_) (fun c1 => absurd rfl c1)
  exact kk _ _ _ _ hq1 hP hD hS _ hl
set_option maxRecDepth 100000 in
theorem cs_agree {p : Program} {l : Launch} {e : Env} {s : State} {m : MethodId} {below : List Frame} {meth : Method} {c : Code} {Q : State → Prop} {D : va_G} {k : Nat → ClassId} {Z : zZ} {b L : Nat} {xs : Nat → Int32} (hC : lwC p s m c D k Z b L xs) {a6 : Nat → Nat} {h ao : Nat} {i : Int32} (wo F : va_W) {t t6 : Tw} {p1 : Int32} (hp1 : sAt xs L i 1 p1) {rm : Room} {mc ms : Nat} {P1 : Int32 → (Nat → Int64) → va_W → Prop} {r6 : Int32} (hrc : rm.cells = mc) (hrs : rm.slots = ms) (hfr : rm.frames + 1 ≤ 8192 ∧ 8 + (4 + 11) + rm.locals ≤ 104096) (hM : CtXH l yX0_agree cX0_agree 4 (some .int) hhX0_agree rm Z D zCl wo [.ref h, .int p1, .ref ao] (PWo k ao P1) (fun _ _ => False) mc ms) (hM6 : CtW l yX6_agree cX6_agree 4 (some .int) rX6_agree Z D zCl (cT k a6 t) [.ref (a6 0), .int p1] (fun r' w' => r' = some (.int r6) ∧ w' = cT k a6 t6) 0 0) (hrel : ∀ x g V, P1 x g V → fX6_thrown t6 = some x ∧ (x = 0 → g0 g = r6.toInt64)) {H : Heap} {locs : List Loc} {cells slots : Nat} (hP : va_P D zCl (cT k a6 t ++ (wo ++ F)) H) (hD : va_D (fun q => s.heap.size ≤ q) (cT k a6 t ++ (wo ++ F))) (hS : va_S (fun q => s.heap.size ≤ q) s.heap H locs) (hcells : cells + mc ≤ 603072) (hslots : slots + ms ≤ 7190634) (kk : ∀ x g V H locs, P1 x g V → va_P D zCl (cT k a6 t6 ++ ((V ++ [ouC k ao g]) ++ F)) H → va_D (fun q => s.heap.size ≤ q) (cT k a6 t6 ++ ((V ++ [ouC k ao g]) ++ F)) → va_S (fun q => s.heap.size ≤ q) s.heap H locs → ∀ ls, lv_has ls 7 [(0, .ref b), (1, .ref h), (2, .ref (a6 0)), (3, .ref ao), (4, .int i)] → W p l e room_1 s m #[Value.ref b] below meth c H locs (cells + mc) (slots + ms) Q (F0 m 2965 ls [])) {ls : Array Slot} (hl : lv_has ls 7 [(0, .ref b), (1, .ref h), (2, .ref (a6 0)), (3, .ref ao), (4, .int i)]) : W p l e room_1 s m #[Value.ref b] below meth c H locs cells slots Q (F0 m 2377 ls []) := by
  obtain ⟨hx, hb, hml, hown, hts, hX, hbl, hOK, hz⟩ := hC
  have hK := hOK.1 _ _ _ hz
  have hbA : ¬ (fun q => s.heap.size ≤ q) b := Nat.not_le.mpr hbl
  have hA : ∀ q : Nat, s.heap.size ≤ q → (fun q => s.heap.size ≤ q) q := fun _ h => h
  refine lv_aload_n hx hb dL_law_2377 rfl (lv_at hl 1 rfl) ?_
  refine lw_arg (j := (1 : Int32)) hx hb hX hbl hbA hS hp1 (lv_at hl 0 rfl) (lv_at hl 4 rfl) dL_law_2378 dL_law_2379 dL_law_2381 (by decide) dL_law_2382 dL_law_2383 ?_
  refine lv_aload_n hx hb dL_law_2384 rfl (lv_at hl 3 rfl) ?_
  refine cXSH (cT k a6 t) wo F (As := [.ref h, .int p1, .ref ao]) ⟨hx, hb, hml, hown, hts⟩ hOK hz hS hA hP hD hM (kX0_agree hts q1839 hrc hrs ⟨(by show rm.frames + 1 ≤ 8192; omega), (by show 8 + (4 + 11) + rm.locals ≤ 104096; omega)⟩) rfl hl.1 rfl (lv_room (Nat.le_of_ble_eq_true rfl)) ⟨hcells, hslots⟩ dL_law_2385 (fun E_ w_ ce_ q9_ H locs hq hP hD hS hce hcv hcl => hq.elim) (fun r_ w_ H locs hq hP hD hS => ?_)
  obtain ⟨x, g, V, hq1, rfl, rfl⟩ := hq
  refine lv_istore (lv' := [(5, .int x), (0, .ref b), (1, .ref h), (2, .ref (a6 0)), (3, .ref ao), (4, .int i)]) hx hb dL_law_2388 hl (by decide) rfl (fun ls hl => ?_)
  refine lv_aload_n hx hb dL_law_2390 rfl (lv_at hl 3 rfl) ?_
  refine lw_arg (j := (1 : Int32)) hx hb hX hbl hbA hS hp1 (lv_at hl 1 rfl) (lv_at hl 5 rfl) dL_law_2391 dL_law_2392 dL_law_2394 (by decide) dL_law_2395 dL_law_2396 ?_
  refine cWV [] (cT k a6 t) ((V ++ [ouC k ao g]) ++ F) (As := [.int p1]) (ci := 0) ⟨hx, hb, hml, hown, hts⟩ hOK hz hS hA hP hD hM6 (kX6_agree hts q2427 rfl rfl ⟨Nat.le_of_ble_eq_true rfl, Nat.le_of_ble_eq_true rfl⟩) 0 rfl rfl rfl hl.1 rfl (lv_room (Nat.le_of_ble_eq_true rfl)) ⟨hcells, hslots⟩ dL_law_2397 (fun r_ w_6 H locs hq hP hD hS => ?_)
  obtain ⟨rfl, rfl⟩ := hq
  have hP : va_P D zCl (cT k a6 t6 ++ ((V ++ [ouC k ao g]) ++ F)) _ := hP
  have hD : va_D (fun q => s.heap.size ≤ q) (cT k a6 t6 ++ ((V ++ [ouC k ao g]) ++ F)) := hD
  refine lv_istore (lv' := [(6, .int r6), (5, .int x), (0, .ref b), (1, .ref h), (2, .ref (a6 0)), (3, .ref ao), (4, .int i)]) hx hb dL_law_2400 hl (by decide) rfl (fun ls hl => ?_)
  refine lv_aload_n hx hb dL_law_2402 rfl (lv_at hl 4 rfl) ?_
  obtain ⟨hth, hge⟩ := hrel _ _ _ hq1
  refine cRV (As := []) (ci := 0) ⟨hx, hb, hml, hown, hts⟩ hOK hz hS (zdropP hP) (mtX6_thrown l D k a6 Z hOK t6 x hth) (kX6_thrown hts q1969 rfl rfl ⟨Nat.le_of_ble_eq_true rfl, Nat.le_of_ble_eq_true rfl⟩) 0 rfl rfl rfl hl.1 rfl (lv_room (Nat.le_of_ble_eq_true rfl)) ⟨(by show cells + mc ≤ 603072; exact hcells), (by show slots + ms ≤ 7190634; exact hslots)⟩ dL_law_2403 ?_
  refine lv_iload hx hb dL_law_2406 (lv_at hl 1 rfl) ?_
  refine lv_icmp_eq (tgt := 2413) hx hb dL_law_2408 (by decide) (fun _ => ?_) (fun c1 => absurd rfl c1)
  refine lv_iload hx hb dL_law_2413 (lv_at hl 1 rfl) ?_
  refine lv_if_ne (tgt := 2430) hx hb dL_law_2415 (by decide) (fun _ => ?_) (fun c2 => ?_)
  · refine lv_goto (tgt := 2965) hx hb dL_law_2430 (by decide) ?_
    exact kk _ _ _ _ _ hq1 hP hD hS _ (lv_sub hl [2, 3, 4, 5, 6] rfl)
  · refine lv_aload_n hx hb dL_law_2418 rfl (lv_at hl 5 rfl) ?_
    refine lv_iconst (v := (0 : Int32)) hx hb dL_law_2419 (by decide) ?_
    refine va_lald hx hb hK hP ((cT k a6 t6).length + V.length) 3 (ouIdx _ _ _ _) rfl out_in dL_law_2420 ?_
    rw [show g (Int32.toNatClampNeg (0 : Int32)) = r6.toInt64 from hge c2]
    refine lv_iload hx hb dL_law_2421 (lv_at hl 0 rfl) ?_
    refine lv_i2l (v := r6.toInt64) hx hb dL_law_2423 rfl ?_
    refine lv_lcmp_same hx hb dL_law_2424 ?_
    refine lv_if_eq (tgt := 2430) hx hb dL_law_2425 (by decide) (fun _ => ?_) (fun c3 => absurd rfl c3)
    refine lv_goto (tgt := 2965) hx hb dL_law_2430 (by decide) ?_
    exact kk _ _ _ _ _ hq1 hP hD hS _ (lv_sub hl [2, 3, 4, 5, 6] rfl)
set_option maxRecDepth 100000 in
theorem cs_need {p : Program} {l : Launch} {e : Env} {s : State} {m : MethodId} {below : List Frame} {meth : Method} {c : Code} {Q : State → Prop} {D : va_G} {k : Nat → ClassId} {Z : zZ} {b L : Nat} {xs : Nat → Int32} (hC : lwC p s m c D k Z b L xs) {a6 : Nat → Nat} {h ao : Nat} {i : Int32} (wo F : va_W) {t t6 : Tw} {p1 : Int32} (hp1 : sAt xs L i 1 p1) {rm : Room} {mc ms : Nat} {P1 : Int32 → (Nat → Int64) → va_W → Prop} {r6 : Int32} (hrc : rm.cells = mc) (hrs : rm.slots = ms) (hfr : rm.frames + 1 ≤ 8192 ∧ 8 + (4 + 11) + rm.locals ≤ 104096) (hM : CtXH l yX0_need cX0_need 4 (some .int) hhX0_need rm Z D zCl wo [.ref h, .int p1, .ref ao] (PWo k ao P1) (fun _ _ => False) mc ms) (hM6 : CtW l yX6_need cX6_need 2 (some .int) rX6_need Z D zCl (cT k a6 t) [.ref (a6 0), .int p1] (fun r' w' => r' = some (.int r6) ∧ w' = cT k a6 t6) 0 0) (hrel : ∀ x g V, P1 x g V → fX6_thrown t6 = some x ∧ (x = 0 → g0 g = r6.toInt64)) {H : Heap} {locs : List Loc} {cells slots : Nat} (hP : va_P D zCl (cT k a6 t ++ (wo ++ F)) H) (hD : va_D (fun q => s.heap.size ≤ q) (cT k a6 t ++ (wo ++ F))) (hS : va_S (fun q => s.heap.size ≤ q) s.heap H locs) (hcells : cells + mc ≤ 603072) (hslots : slots + ms ≤ 7190634) (kk : ∀ x g V H locs, P1 x g V → va_P D zCl (cT k a6 t6 ++ ((V ++ [ouC k ao g]) ++ F)) H → va_D (fun q => s.heap.size ≤ q) (cT k a6 t6 ++ ((V ++ [ouC k ao g]) ++ F)) → va_S (fun q => s.heap.size ≤ q) s.heap H locs → ∀ ls, lv_has ls 7 [(0, .ref b), (1, .ref h), (2, .ref (a6 0)), (3, .ref ao), (4, .int i)] → W p l e room_1 s m #[Value.ref b] below meth c H locs (cells + mc) (slots + ms) Q (F0 m 2965 ls [])) {ls : Array Slot} (hl : lv_has ls 7 [(0, .ref b), (1, .ref h), (2, .ref (a6 0)), (3, .ref ao), (4, .int i)]) : W p l e room_1 s m #[Value.ref b] below meth c H locs cells slots Q (F0 m 2433 ls []) := by
  obtain ⟨hx, hb, hml, hown, hts, hX, hbl, hOK, hz⟩ := hC
  have hK := hOK.1 _ _ _ hz
  have hbA : ¬ (fun q => s.heap.size ≤ q) b := Nat.not_le.mpr hbl
  have hA : ∀ q : Nat, s.heap.size ≤ q → (fun q => s.heap.size ≤ q) q := fun _ h => h
  refine lv_aload_n hx hb dL_law_2433 rfl (lv_at hl 1 rfl) ?_
  refine lw_arg (j := (1 : Int32)) hx hb hX hbl hbA hS hp1 (lv_at hl 0 rfl) (lv_at hl 4 rfl) dL_law_2434 dL_law_2435 dL_law_2437 (by decide) dL_law_2438 dL_law_2439 ?_
  refine lv_aload_n hx hb dL_law_2440 rfl (lv_at hl 3 rfl) ?_
  refine cXSH (cT k a6 t) wo F (As := [.ref h, .int p1, .ref ao]) ⟨hx, hb, hml, hown, hts⟩ hOK hz hS hA hP hD hM (kX0_need hts q1846 hrc hrs ⟨(by show rm.frames + 1 ≤ 8192; omega), (by show 8 + (4 + 11) + rm.locals ≤ 104096; omega)⟩) rfl hl.1 rfl (lv_room (Nat.le_of_ble_eq_true rfl)) ⟨hcells, hslots⟩ dL_law_2441 (fun E_ w_ ce_ q9_ H locs hq hP hD hS hce hcv hcl => hq.elim) (fun r_ w_ H locs hq hP hD hS => ?_)
  obtain ⟨x, g, V, hq1, rfl, rfl⟩ := hq
  refine lv_istore (lv' := [(5, .int x), (0, .ref b), (1, .ref h), (2, .ref (a6 0)), (3, .ref ao), (4, .int i)]) hx hb dL_law_2444 hl (by decide) rfl (fun ls hl => ?_)
  refine lv_aload_n hx hb dL_law_2446 rfl (lv_at hl 3 rfl) ?_
  refine lw_arg (j := (1 : Int32)) hx hb hX hbl hbA hS hp1 (lv_at hl 1 rfl) (lv_at hl 5 rfl) dL_law_2447 dL_law_2448 dL_law_2450 (by decide) dL_law_2451 dL_law_2452 ?_
  refine cWV [] (cT k a6 t) ((V ++ [ouC k ao g]) ++ F) (As := [.int p1]) (ci := 0) ⟨hx, hb, hml, hown, hts⟩ hOK hz hS hA hP hD hM6 (kX6_need hts q2431 rfl rfl ⟨Nat.le_of_ble_eq_true rfl, Nat.le_of_ble_eq_true rfl⟩) 0 rfl rfl rfl hl.1 rfl (lv_room (Nat.le_of_ble_eq_true rfl)) ⟨hcells, hslots⟩ dL_law_2453 (fun r_ w_6 H locs hq hP hD hS => ?_)
  obtain ⟨rfl, rfl⟩ := hq
  have hP : va_P D zCl (cT k a6 t6 ++ ((V ++ [ouC k ao g]) ++ F)) _ := hP
  have hD : va_D (fun q => s.heap.size ≤ q) (cT k a6 t6 ++ ((V ++ [ouC k ao g]) ++ F)) := hD
  refine lv_istore (lv' := [(6, .int r6), (5, .int x), (0, .ref b), (1, .ref h), (2, .ref (a6 0)), (3, .ref ao), (4, .int i)]) hx hb dL_law_2456 hl (by decide) rfl (fun ls hl => ?_)
  refine lv_aload_n hx hb dL_law_2458 rfl (lv_at hl 4 rfl) ?_
  obtain ⟨hth, hge⟩ := hrel _ _ _ hq1
  refine cRV (As := []) (ci := 0) ⟨hx, hb, hml, hown, hts⟩ hOK hz hS (zdropP hP) (mtX6_thrown l D k a6 Z hOK t6 x hth) (kX6_thrown hts q1969 rfl rfl ⟨Nat.le_of_ble_eq_true rfl, Nat.le_of_ble_eq_true rfl⟩) 0 rfl rfl rfl hl.1 rfl (lv_room (Nat.le_of_ble_eq_true rfl)) ⟨(by show cells + mc ≤ 603072; exact hcells), (by show slots + ms ≤ 7190634; exact hslots)⟩ dL_law_2459 ?_
  refine lv_iload hx hb dL_law_2462 (lv_at hl 1 rfl) ?_
  refine lv_icmp_eq (tgt := 2469) hx hb dL_law_2464 (by decide) (fun _ => ?_) (fun c1 => absurd rfl c1)
  refine lv_iload hx hb dL_law_2469 (lv_at hl 1 rfl) ?_
  refine lv_if_ne (tgt := 2486) hx hb dL_law_2471 (by decide) (fun _ => ?_) (fun c2 => ?_)
  · refine lv_goto (tgt := 2965) hx hb dL_law_2486 (by decide) ?_
    exact kk _ _ _ _ _ hq1 hP hD hS _ (lv_sub hl [2, 3, 4, 5, 6] rfl)
  · refine lv_aload_n hx hb dL_law_2474 rfl (lv_at hl 5 rfl) ?_
    refine lv_iconst (v := (0 : Int32)) hx hb dL_law_2475 (by decide) ?_
    refine va_lald hx hb hK hP ((cT k a6 t6).length + V.length) 3 (ouIdx _ _ _ _) rfl out_in dL_law_2476 ?_
    rw [show g (Int32.toNatClampNeg (0 : Int32)) = r6.toInt64 from hge c2]
    refine lv_iload hx hb dL_law_2477 (lv_at hl 0 rfl) ?_
    refine lv_i2l (v := r6.toInt64) hx hb dL_law_2479 rfl ?_
    refine lv_lcmp_same hx hb dL_law_2480 ?_
    refine lv_if_eq (tgt := 2486) hx hb dL_law_2481 (by decide) (fun _ => ?_) (fun c3 => absurd rfl c3)
    refine lv_goto (tgt := 2965) hx hb dL_law_2486 (by decide) ?_
    exact kk _ _ _ _ _ hq1 hP hD hS _ (lv_sub hl [2, 3, 4, 5, 6] rfl)
set_option maxRecDepth 100000 in
theorem cs_spread {p : Program} {l : Launch} {e : Env} {s : State} {m : MethodId} {below : List Frame} {meth : Method} {c : Code} {Q : State → Prop} {D : va_G} {k : Nat → ClassId} {Z : zZ} {b L : Nat} {xs : Nat → Int32} (hC : lwC p s m c D k Z b L xs) {a6 : Nat → Nat} {h ao : Nat} {i : Int32} (wo F : va_W) {t t6 : Tw} {p1 : Int32} (hp1 : sAt xs L i 1 p1) {rm : Room} {mc ms : Nat} {P1 : Int32 → (Nat → Int64) → va_W → Prop} {r6 : Int32} (hrc : rm.cells = mc) (hrs : rm.slots = ms) (hfr : rm.frames + 1 ≤ 8192 ∧ 8 + (4 + 11) + rm.locals ≤ 104096) (hM : CtXH l yX0_spread cX0_spread 4 (some .int) hhX0_spread rm Z D zCl wo [.ref h, .int p1, .ref ao] (PWo k ao P1) (fun _ _ => False) mc ms) (hM6 : CtW l yX6_spread cX6_spread 7 (some .int) rX6_spread Z D zCl (cT k a6 t) [.ref (a6 0), .int p1] (fun r' w' => r' = some (.int r6) ∧ w' = cT k a6 t6) 0 0) (hrel : ∀ x g V, P1 x g V → fX6_thrown t6 = some x ∧ (x = 0 → g0 g = r6.toInt64)) {H : Heap} {locs : List Loc} {cells slots : Nat} (hP : va_P D zCl (cT k a6 t ++ (wo ++ F)) H) (hD : va_D (fun q => s.heap.size ≤ q) (cT k a6 t ++ (wo ++ F))) (hS : va_S (fun q => s.heap.size ≤ q) s.heap H locs) (hcells : cells + mc ≤ 603072) (hslots : slots + ms ≤ 7190634) (kk : ∀ x g V H locs, P1 x g V → va_P D zCl (cT k a6 t6 ++ ((V ++ [ouC k ao g]) ++ F)) H → va_D (fun q => s.heap.size ≤ q) (cT k a6 t6 ++ ((V ++ [ouC k ao g]) ++ F)) → va_S (fun q => s.heap.size ≤ q) s.heap H locs → ∀ ls, lv_has ls 7 [(0, .ref b), (1, .ref h), (2, .ref (a6 0)), (3, .ref ao), (4, .int i)] → W p l e room_1 s m #[Value.ref b] below meth c H locs (cells + mc) (slots + ms) Q (F0 m 2965 ls [])) {ls : Array Slot} (hl : lv_has ls 7 [(0, .ref b), (1, .ref h), (2, .ref (a6 0)), (3, .ref ao), (4, .int i)]) : W p l e room_1 s m #[Value.ref b] below meth c H locs cells slots Q (F0 m 2489 ls []) := by
  obtain ⟨hx, hb, hml, hown, hts, hX, hbl, hOK, hz⟩ := hC
  have hK := hOK.1 _ _ _ hz
  have hbA : ¬ (fun q => s.heap.size ≤ q) b := Nat.not_le.mpr hbl
  have hA : ∀ q : Nat, s.heap.size ≤ q → (fun q => s.heap.size ≤ q) q := fun _ h => h
  refine lv_aload_n hx hb dL_law_2489 rfl (lv_at hl 1 rfl) ?_
  refine lw_arg (j := (1 : Int32)) hx hb hX hbl hbA hS hp1 (lv_at hl 0 rfl) (lv_at hl 4 rfl) dL_law_2490 dL_law_2491 dL_law_2493 (by decide) dL_law_2494 dL_law_2495 ?_
  refine lv_aload_n hx hb dL_law_2496 rfl (lv_at hl 3 rfl) ?_
  refine cXSH (cT k a6 t) wo F (As := [.ref h, .int p1, .ref ao]) ⟨hx, hb, hml, hown, hts⟩ hOK hz hS hA hP hD hM (kX0_spread hts q1853 hrc hrs ⟨(by show rm.frames + 1 ≤ 8192; omega), (by show 8 + (4 + 11) + rm.locals ≤ 104096; omega)⟩) rfl hl.1 rfl (lv_room (Nat.le_of_ble_eq_true rfl)) ⟨hcells, hslots⟩ dL_law_2497 (fun E_ w_ ce_ q9_ H locs hq hP hD hS hce hcv hcl => hq.elim) (fun r_ w_ H locs hq hP hD hS => ?_)
  obtain ⟨x, g, V, hq1, rfl, rfl⟩ := hq
  refine lv_istore (lv' := [(5, .int x), (0, .ref b), (1, .ref h), (2, .ref (a6 0)), (3, .ref ao), (4, .int i)]) hx hb dL_law_2500 hl (by decide) rfl (fun ls hl => ?_)
  refine lv_aload_n hx hb dL_law_2502 rfl (lv_at hl 3 rfl) ?_
  refine lw_arg (j := (1 : Int32)) hx hb hX hbl hbA hS hp1 (lv_at hl 1 rfl) (lv_at hl 5 rfl) dL_law_2503 dL_law_2504 dL_law_2506 (by decide) dL_law_2507 dL_law_2508 ?_
  refine cWV [] (cT k a6 t) ((V ++ [ouC k ao g]) ++ F) (As := [.int p1]) (ci := 0) ⟨hx, hb, hml, hown, hts⟩ hOK hz hS hA hP hD hM6 (kX6_spread hts q2435 rfl rfl ⟨Nat.le_of_ble_eq_true rfl, Nat.le_of_ble_eq_true rfl⟩) 0 rfl rfl rfl hl.1 rfl (lv_room (Nat.le_of_ble_eq_true rfl)) ⟨hcells, hslots⟩ dL_law_2509 (fun r_ w_6 H locs hq hP hD hS => ?_)
  obtain ⟨rfl, rfl⟩ := hq
  have hP : va_P D zCl (cT k a6 t6 ++ ((V ++ [ouC k ao g]) ++ F)) _ := hP
  have hD : va_D (fun q => s.heap.size ≤ q) (cT k a6 t6 ++ ((V ++ [ouC k ao g]) ++ F)) := hD
  refine lv_istore (lv' := [(6, .int r6), (5, .int x), (0, .ref b), (1, .ref h), (2, .ref (a6 0)), (3, .ref ao), (4, .int i)]) hx hb dL_law_2512 hl (by decide) rfl (fun ls hl => ?_)
  refine lv_aload_n hx hb dL_law_2514 rfl (lv_at hl 4 rfl) ?_
  obtain ⟨hth, hge⟩ := hrel _ _ _ hq1
  refine cRV (As := []) (ci := 0) ⟨hx, hb, hml, hown, hts⟩ hOK hz hS (zdropP hP) (mtX6_thrown l D k a6 Z hOK t6 x hth) (kX6_thrown hts q1969 rfl rfl ⟨Nat.le_of_ble_eq_true rfl, Nat.le_of_ble_eq_true rfl⟩) 0 rfl rfl rfl hl.1 rfl (lv_room (Nat.le_of_ble_eq_true rfl)) ⟨(by show cells + mc ≤ 603072; exact hcells), (by show slots + ms ≤ 7190634; exact hslots)⟩ dL_law_2515 ?_
  refine lv_iload hx hb dL_law_2518 (lv_at hl 1 rfl) ?_
  refine lv_icmp_eq (tgt := 2525) hx hb dL_law_2520 (by decide) (fun _ => ?_) (fun c1 => absurd rfl c1)
  refine lv_iload hx hb dL_law_2525 (lv_at hl 1 rfl) ?_
  refine lv_if_ne (tgt := 2542) hx hb dL_law_2527 (by decide) (fun _ => ?_) (fun c2 => ?_)
  · refine lv_goto (tgt := 2965) hx hb dL_law_2542 (by decide) ?_
    exact kk _ _ _ _ _ hq1 hP hD hS _ (lv_sub hl [2, 3, 4, 5, 6] rfl)
  · refine lv_aload_n hx hb dL_law_2530 rfl (lv_at hl 5 rfl) ?_
    refine lv_iconst (v := (0 : Int32)) hx hb dL_law_2531 (by decide) ?_
    refine va_lald hx hb hK hP ((cT k a6 t6).length + V.length) 3 (ouIdx _ _ _ _) rfl out_in dL_law_2532 ?_
    rw [show g (Int32.toNatClampNeg (0 : Int32)) = r6.toInt64 from hge c2]
    refine lv_iload hx hb dL_law_2533 (lv_at hl 0 rfl) ?_
    refine lv_i2l (v := r6.toInt64) hx hb dL_law_2535 rfl ?_
    refine lv_lcmp_same hx hb dL_law_2536 ?_
    refine lv_if_eq (tgt := 2542) hx hb dL_law_2537 (by decide) (fun _ => ?_) (fun c3 => absurd rfl c3)
    refine lv_goto (tgt := 2965) hx hb dL_law_2542 (by decide) ?_
    exact kk _ _ _ _ _ hq1 hP hD hS _ (lv_sub hl [2, 3, 4, 5, 6] rfl)
set_option maxRecDepth 100000 in
theorem cs_mutual {p : Program} {l : Launch} {e : Env} {s : State} {m : MethodId} {below : List Frame} {meth : Method} {c : Code} {Q : State → Prop} {D : va_G} {k : Nat → ClassId} {Z : zZ} {b L : Nat} {xs : Nat → Int32} (hC : lwC p s m c D k Z b L xs) {a6 : Nat → Nat} {h ao : Nat} {i : Int32} (wo F : va_W) {t t6 : Tw} {fs : List Value} (hws : wo[0]? = some (h, .inr (1, fs))) {rm : Room} {mc ms : Nat} {P1 : Int32 → va_W → Prop} {r6 : Int32} (hrc : rm.cells = mc) (hrs : rm.slots = ms) (hfr : rm.frames + 1 ≤ 8192 ∧ 8 + (4 + 11) + rm.locals ≤ 104096) (hM : CtW l yX1_mutual cX1_mutual 4 (some .int) rm Z D zCl wo [.ref h] (PXo P1) mc ms) (hM6 : CtW l yX6_mutual cX6_mutual 4 (some .int) rX6_mutual Z D zCl (cT k a6 t) [.ref (a6 0)] (fun r' w' => r' = some (.int r6) ∧ w' = cT k a6 t6) 0 0) (hrel : ∀ x V, P1 x V → x = r6) {H : Heap} {locs : List Loc} {cells slots : Nat} (hP : va_P D zCl (cT k a6 t ++ (wo ++ F)) H) (hD : va_D (fun q => s.heap.size ≤ q) (cT k a6 t ++ (wo ++ F))) (hS : va_S (fun q => s.heap.size ≤ q) s.heap H locs) (hcells : cells + mc ≤ 603072) (hslots : slots + ms ≤ 7190634) (kk : ∀ x V H locs, P1 x V → va_P D zCl (cT k a6 t6 ++ (V ++ F)) H → va_D (fun q => s.heap.size ≤ q) (cT k a6 t6 ++ (V ++ F)) → va_S (fun q => s.heap.size ≤ q) s.heap H locs → ∀ ls, lv_has ls 7 [(0, .ref b), (1, .ref h), (2, .ref (a6 0)), (3, .ref ao), (4, .int i)] → W p l e room_1 s m #[Value.ref b] below meth c H locs (cells + mc) (slots + ms) Q (F0 m 2965 ls [])) {ls : Array Slot} (hl : lv_has ls 7 [(0, .ref b), (1, .ref h), (2, .ref (a6 0)), (3, .ref ao), (4, .int i)]) : W p l e room_1 s m #[Value.ref b] below meth c H locs cells slots Q (F0 m 2545 ls []) := by
  obtain ⟨hx, hb, hml, hown, hts, hX, hbl, hOK, hz⟩ := hC
  have hK := hOK.1 _ _ _ hz
  have hbA : ¬ (fun q => s.heap.size ≤ q) b := Nat.not_le.mpr hbl
  have hA : ∀ q : Nat, s.heap.size ≤ q → (fun q => s.heap.size ≤ q) q := fun _ h => h
  refine lv_aload_n hx hb dL_law_2545 rfl (lv_at hl 1 rfl) ?_
  refine cWV (cT k a6 t) wo F (As := []) (ci := 1) ⟨hx, hb, hml, hown, hts⟩ hOK hz hS hA hP hD hM (kX1_mutual hts q635 hrc hrs ⟨(by show rm.frames + 1 ≤ 8192; omega), (by show 8 + (4 + 11) + rm.locals ≤ 104096; omega)⟩) 0 hws rfl rfl hl.1 rfl (lv_room (Nat.le_of_ble_eq_true rfl)) ⟨hcells, hslots⟩ dL_law_2546 (fun r_ w_ H locs hq hP hD hS => ?_)
  obtain ⟨x, hq1, rfl⟩ := hq
  refine lv_aload_n hx hb dL_law_2549 rfl (lv_at hl 2 rfl) ?_
  refine cWV [] (cT k a6 t) (w_ ++ F) (As := []) (ci := 0) ⟨hx, hb, hml, hown, hts⟩ hOK hz hS hA hP hD hM6 (kX6_mutual hts q2439 rfl rfl ⟨Nat.le_of_ble_eq_true rfl, Nat.le_of_ble_eq_true rfl⟩) 0 rfl rfl rfl hl.1 rfl (lv_room (Nat.le_of_ble_eq_true rfl)) ⟨hcells, hslots⟩ dL_law_2550 (fun r_ w_6 H locs hq hP hD hS => ?_)
  obtain ⟨rfl, rfl⟩ := hq
  have hP : va_P D zCl (cT k a6 t6 ++ (w_ ++ F)) _ := hP
  have hD : va_D (fun q => s.heap.size ≤ q) (cT k a6 t6 ++ (w_ ++ F)) := hD
  have hre := hrel _ _ hq1
  subst hre
  refine lv_icmp_eq (tgt := 2965) hx hb dL_law_2553 (by decide) (fun _ => ?_) (fun c1 => absurd rfl c1)
  exact kk _ _ _ _ hq1 hP hD hS _ hl
set_option maxRecDepth 100000 in
theorem cs_trial {p : Program} {l : Launch} {e : Env} {s : State} {m : MethodId} {below : List Frame} {meth : Method} {c : Code} {Q : State → Prop} {D : va_G} {k : Nat → ClassId} {Z : zZ} {b L : Nat} {xs : Nat → Int32} (hC : lwC p s m c D k Z b L xs) {a6 : Nat → Nat} {h ao : Nat} {i : Int32} (wo F : va_W) {t t6 : Tw} {p1 : Int32} (hp1 : sAt xs L i 1 p1) {p2 : Int32} (hp2 : sAt xs L i 2 p2) {rm : Room} {mc ms : Nat} {P1 : Int32 → (Nat → Int64) → va_W → Prop} {r6 : Int32} (hrc : rm.cells = mc) (hrs : rm.slots = ms) (hfr : rm.frames + 1 ≤ 8192 ∧ 8 + (5 + 11) + rm.locals ≤ 104096) (hM : CtXH l yX0_trial cX0_trial 5 (some .int) hhX0_trial rm Z D zCl wo [.ref h, .int p1, .int (bz (zn p2)), .ref ao] (PWo k ao P1) (fun _ _ => False) mc ms) (hM6 : CtW l yX6_trial cX6_trial 5 (some .int) rX6_trial Z D zCl (cT k a6 t) [.ref (a6 0), .int p1, .int (bz (zn p2))] (fun r' w' => r' = some (.int r6) ∧ w' = cT k a6 t6) 0 0) (hrel : ∀ x g V, P1 x g V → fX6_thrown t6 = some x ∧ (x = 0 → g0 g = r6.toInt64)) {H : Heap} {locs : List Loc} {cells slots : Nat} (hP : va_P D zCl (cT k a6 t ++ (wo ++ F)) H) (hD : va_D (fun q => s.heap.size ≤ q) (cT k a6 t ++ (wo ++ F))) (hS : va_S (fun q => s.heap.size ≤ q) s.heap H locs) (hcells : cells + mc ≤ 603072) (hslots : slots + ms ≤ 7190634) (kk : ∀ x g V H locs, P1 x g V → va_P D zCl (cT k a6 t6 ++ ((V ++ [ouC k ao g]) ++ F)) H → va_D (fun q => s.heap.size ≤ q) (cT k a6 t6 ++ ((V ++ [ouC k ao g]) ++ F)) → va_S (fun q => s.heap.size ≤ q) s.heap H locs → ∀ ls, lv_has ls 7 [(0, .ref b), (1, .ref h), (2, .ref (a6 0)), (3, .ref ao), (4, .int i)] → W p l e room_1 s m #[Value.ref b] below meth c H locs (cells + mc) (slots + ms) Q (F0 m 2965 ls [])) {ls : Array Slot} (hl : lv_has ls 7 [(0, .ref b), (1, .ref h), (2, .ref (a6 0)), (3, .ref ao), (4, .int i)]) : W p l e room_1 s m #[Value.ref b] below meth c H locs cells slots Q (F0 m 2558 ls []) := by
  obtain ⟨hx, hb, hml, hown, hts, hX, hbl, hOK, hz⟩ := hC
  have hK := hOK.1 _ _ _ hz
  have hbA : ¬ (fun q => s.heap.size ≤ q) b := Nat.not_le.mpr hbl
  have hA : ∀ q : Nat, s.heap.size ≤ q → (fun q => s.heap.size ≤ q) q := fun _ h => h
  refine lv_aload_n hx hb dL_law_2558 rfl (lv_at hl 1 rfl) ?_
  refine lw_arg (j := (1 : Int32)) hx hb hX hbl hbA hS hp1 (lv_at hl 0 rfl) (lv_at hl 4 rfl) dL_law_2559 dL_law_2560 dL_law_2562 (by decide) dL_law_2563 dL_law_2564 ?_
  refine lw_arg (j := (2 : Int32)) hx hb hX hbl hbA hS hp2 (lv_at hl 0 rfl) (lv_at hl 4 rfl) dL_law_2565 dL_law_2566 dL_law_2568 (by decide) dL_law_2569 dL_law_2570 ?_
  refine lw_argz hx hb dL_law_2571 dL_law_2574 dL_law_2575 dL_law_2578 ?_
  refine lv_aload_n hx hb dL_law_2579 rfl (lv_at hl 3 rfl) ?_
  refine cXSH (cT k a6 t) wo F (As := [.ref h, .int p1, .int (bz (zn p2)), .ref ao]) ⟨hx, hb, hml, hown, hts⟩ hOK hz hS hA hP hD hM (kX0_trial hts q1860 hrc hrs ⟨(by show rm.frames + 1 ≤ 8192; omega), (by show 8 + (5 + 11) + rm.locals ≤ 104096; omega)⟩) rfl hl.1 rfl (lv_room (Nat.le_of_ble_eq_true rfl)) ⟨hcells, hslots⟩ dL_law_2580 (fun E_ w_ ce_ q9_ H locs hq hP hD hS hce hcv hcl => hq.elim) (fun r_ w_ H locs hq hP hD hS => ?_)
  obtain ⟨x, g, V, hq1, rfl, rfl⟩ := hq
  refine lv_istore (lv' := [(5, .int x), (0, .ref b), (1, .ref h), (2, .ref (a6 0)), (3, .ref ao), (4, .int i)]) hx hb dL_law_2583 hl (by decide) rfl (fun ls hl => ?_)
  refine lv_aload_n hx hb dL_law_2585 rfl (lv_at hl 3 rfl) ?_
  refine lw_arg (j := (1 : Int32)) hx hb hX hbl hbA hS hp1 (lv_at hl 1 rfl) (lv_at hl 5 rfl) dL_law_2586 dL_law_2587 dL_law_2589 (by decide) dL_law_2590 dL_law_2591 ?_
  refine lw_arg (j := (2 : Int32)) hx hb hX hbl hbA hS hp2 (lv_at hl 1 rfl) (lv_at hl 5 rfl) dL_law_2592 dL_law_2593 dL_law_2595 (by decide) dL_law_2596 dL_law_2597 ?_
  refine lw_argz hx hb dL_law_2598 dL_law_2601 dL_law_2602 dL_law_2605 ?_
  refine cWV [] (cT k a6 t) ((V ++ [ouC k ao g]) ++ F) (As := [.int p1, .int (bz (zn p2))]) (ci := 0) ⟨hx, hb, hml, hown, hts⟩ hOK hz hS hA hP hD hM6 (kX6_trial hts q2443 rfl rfl ⟨Nat.le_of_ble_eq_true rfl, Nat.le_of_ble_eq_true rfl⟩) 0 rfl rfl rfl hl.1 rfl (lv_room (Nat.le_of_ble_eq_true rfl)) ⟨hcells, hslots⟩ dL_law_2606 (fun r_ w_6 H locs hq hP hD hS => ?_)
  obtain ⟨rfl, rfl⟩ := hq
  have hP : va_P D zCl (cT k a6 t6 ++ ((V ++ [ouC k ao g]) ++ F)) _ := hP
  have hD : va_D (fun q => s.heap.size ≤ q) (cT k a6 t6 ++ ((V ++ [ouC k ao g]) ++ F)) := hD
  refine lv_istore (lv' := [(6, .int r6), (5, .int x), (0, .ref b), (1, .ref h), (2, .ref (a6 0)), (3, .ref ao), (4, .int i)]) hx hb dL_law_2609 hl (by decide) rfl (fun ls hl => ?_)
  refine lv_aload_n hx hb dL_law_2611 rfl (lv_at hl 4 rfl) ?_
  obtain ⟨hth, hge⟩ := hrel _ _ _ hq1
  refine cRV (As := []) (ci := 0) ⟨hx, hb, hml, hown, hts⟩ hOK hz hS (zdropP hP) (mtX6_thrown l D k a6 Z hOK t6 x hth) (kX6_thrown hts q1969 rfl rfl ⟨Nat.le_of_ble_eq_true rfl, Nat.le_of_ble_eq_true rfl⟩) 0 rfl rfl rfl hl.1 rfl (lv_room (Nat.le_of_ble_eq_true rfl)) ⟨(by show cells + mc ≤ 603072; exact hcells), (by show slots + ms ≤ 7190634; exact hslots)⟩ dL_law_2612 ?_
  refine lv_iload hx hb dL_law_2615 (lv_at hl 1 rfl) ?_
  refine lv_icmp_eq (tgt := 2622) hx hb dL_law_2617 (by decide) (fun _ => ?_) (fun c1 => absurd rfl c1)
  refine lv_iload hx hb dL_law_2622 (lv_at hl 1 rfl) ?_
  refine lv_if_ne (tgt := 2639) hx hb dL_law_2624 (by decide) (fun _ => ?_) (fun c2 => ?_)
  · refine lv_goto (tgt := 2965) hx hb dL_law_2639 (by decide) ?_
    exact kk _ _ _ _ _ hq1 hP hD hS _ (lv_sub hl [2, 3, 4, 5, 6] rfl)
  · refine lv_aload_n hx hb dL_law_2627 rfl (lv_at hl 5 rfl) ?_
    refine lv_iconst (v := (0 : Int32)) hx hb dL_law_2628 (by decide) ?_
    refine va_lald hx hb hK hP ((cT k a6 t6).length + V.length) 3 (ouIdx _ _ _ _) rfl out_in dL_law_2629 ?_
    rw [show g (Int32.toNatClampNeg (0 : Int32)) = r6.toInt64 from hge c2]
    refine lv_iload hx hb dL_law_2630 (lv_at hl 0 rfl) ?_
    refine lv_i2l (v := r6.toInt64) hx hb dL_law_2632 rfl ?_
    refine lv_lcmp_same hx hb dL_law_2633 ?_
    refine lv_if_eq (tgt := 2639) hx hb dL_law_2634 (by decide) (fun _ => ?_) (fun c3 => absurd rfl c3)
    refine lv_goto (tgt := 2965) hx hb dL_law_2639 (by decide) ?_
    exact kk _ _ _ _ _ hq1 hP hD hS _ (lv_sub hl [2, 3, 4, 5, 6] rfl)
set_option maxRecDepth 100000 in
theorem cs_span {p : Program} {l : Launch} {e : Env} {s : State} {m : MethodId} {below : List Frame} {meth : Method} {c : Code} {Q : State → Prop} {D : va_G} {k : Nat → ClassId} {Z : zZ} {b L : Nat} {xs : Nat → Int32} (hC : lwC p s m c D k Z b L xs) {a6 : Nat → Nat} {h ao : Nat} {i : Int32} (wo F : va_W) {t t6 : Tw} {p1 : Int32} (hp1 : sAt xs L i 1 p1) {p2 : Int32} (hp2 : sAt xs L i 2 p2) {rm : Room} {mc ms : Nat} {P1 : Int32 → (Nat → Int64) → va_W → Prop} {r6 : Int32} (hrc : rm.cells = mc) (hrs : rm.slots = ms) (hfr : rm.frames + 1 ≤ 8192 ∧ 8 + (5 + 11) + rm.locals ≤ 104096) (hM : CtXH l yX0_span cX0_span 5 (some .int) hhX0_span rm Z D zCl wo [.ref h, .int p1, .int (bz (zn p2)), .ref ao] (PWo k ao P1) (fun _ _ => False) mc ms) (hM6 : CtW l yX6_span cX6_span 6 (some .int) rX6_span Z D zCl (cT k a6 t) [.ref (a6 0), .int p1, .int (bz (zn p2))] (fun r' w' => r' = some (.int r6) ∧ w' = cT k a6 t6) 0 0) (hrel : ∀ x g V, P1 x g V → fX6_thrown t6 = some x ∧ (x = 0 → g0 g = r6.toInt64)) {H : Heap} {locs : List Loc} {cells slots : Nat} (hP : va_P D zCl (cT k a6 t ++ (wo ++ F)) H) (hD : va_D (fun q => s.heap.size ≤ q) (cT k a6 t ++ (wo ++ F))) (hS : va_S (fun q => s.heap.size ≤ q) s.heap H locs) (hcells : cells + mc ≤ 603072) (hslots : slots + ms ≤ 7190634) (kk : ∀ x g V H locs, P1 x g V → va_P D zCl (cT k a6 t6 ++ ((V ++ [ouC k ao g]) ++ F)) H → va_D (fun q => s.heap.size ≤ q) (cT k a6 t6 ++ ((V ++ [ouC k ao g]) ++ F)) → va_S (fun q => s.heap.size ≤ q) s.heap H locs → ∀ ls, lv_has ls 7 [(0, .ref b), (1, .ref h), (2, .ref (a6 0)), (3, .ref ao), (4, .int i)] → W p l e room_1 s m #[Value.ref b] below meth c H locs (cells + mc) (slots + ms) Q (F0 m 2965 ls [])) {ls : Array Slot} (hl : lv_has ls 7 [(0, .ref b), (1, .ref h), (2, .ref (a6 0)), (3, .ref ao), (4, .int i)]) : W p l e room_1 s m #[Value.ref b] below meth c H locs cells slots Q (F0 m 2642 ls []) := by
  obtain ⟨hx, hb, hml, hown, hts, hX, hbl, hOK, hz⟩ := hC
  have hK := hOK.1 _ _ _ hz
  have hbA : ¬ (fun q => s.heap.size ≤ q) b := Nat.not_le.mpr hbl
  have hA : ∀ q : Nat, s.heap.size ≤ q → (fun q => s.heap.size ≤ q) q := fun _ h => h
  refine lv_aload_n hx hb dL_law_2642 rfl (lv_at hl 1 rfl) ?_
  refine lw_arg (j := (1 : Int32)) hx hb hX hbl hbA hS hp1 (lv_at hl 0 rfl) (lv_at hl 4 rfl) dL_law_2643 dL_law_2644 dL_law_2646 (by decide) dL_law_2647 dL_law_2648 ?_
  refine lw_arg (j := (2 : Int32)) hx hb hX hbl hbA hS hp2 (lv_at hl 0 rfl) (lv_at hl 4 rfl) dL_law_2649 dL_law_2650 dL_law_2652 (by decide) dL_law_2653 dL_law_2654 ?_
  refine lw_argz hx hb dL_law_2655 dL_law_2658 dL_law_2659 dL_law_2662 ?_
  refine lv_aload_n hx hb dL_law_2663 rfl (lv_at hl 3 rfl) ?_
  refine cXSH (cT k a6 t) wo F (As := [.ref h, .int p1, .int (bz (zn p2)), .ref ao]) ⟨hx, hb, hml, hown, hts⟩ hOK hz hS hA hP hD hM (kX0_span hts q1871 hrc hrs ⟨(by show rm.frames + 1 ≤ 8192; omega), (by show 8 + (5 + 11) + rm.locals ≤ 104096; omega)⟩) rfl hl.1 rfl (lv_room (Nat.le_of_ble_eq_true rfl)) ⟨hcells, hslots⟩ dL_law_2664 (fun E_ w_ ce_ q9_ H locs hq hP hD hS hce hcv hcl => hq.elim) (fun r_ w_ H locs hq hP hD hS => ?_)
  obtain ⟨x, g, V, hq1, rfl, rfl⟩ := hq
  refine lv_istore (lv' := [(5, .int x), (0, .ref b), (1, .ref h), (2, .ref (a6 0)), (3, .ref ao), (4, .int i)]) hx hb dL_law_2667 hl (by decide) rfl (fun ls hl => ?_)
  refine lv_aload_n hx hb dL_law_2669 rfl (lv_at hl 3 rfl) ?_
  refine lw_arg (j := (1 : Int32)) hx hb hX hbl hbA hS hp1 (lv_at hl 1 rfl) (lv_at hl 5 rfl) dL_law_2670 dL_law_2671 dL_law_2673 (by decide) dL_law_2674 dL_law_2675 ?_
  refine lw_arg (j := (2 : Int32)) hx hb hX hbl hbA hS hp2 (lv_at hl 1 rfl) (lv_at hl 5 rfl) dL_law_2676 dL_law_2677 dL_law_2679 (by decide) dL_law_2680 dL_law_2681 ?_
  refine lw_argz hx hb dL_law_2682 dL_law_2685 dL_law_2686 dL_law_2689 ?_
  refine cWV [] (cT k a6 t) ((V ++ [ouC k ao g]) ++ F) (As := [.int p1, .int (bz (zn p2))]) (ci := 0) ⟨hx, hb, hml, hown, hts⟩ hOK hz hS hA hP hD hM6 (kX6_span hts q2451 rfl rfl ⟨Nat.le_of_ble_eq_true rfl, Nat.le_of_ble_eq_true rfl⟩) 0 rfl rfl rfl hl.1 rfl (lv_room (Nat.le_of_ble_eq_true rfl)) ⟨hcells, hslots⟩ dL_law_2690 (fun r_ w_6 H locs hq hP hD hS => ?_)
  obtain ⟨rfl, rfl⟩ := hq
  have hP : va_P D zCl (cT k a6 t6 ++ ((V ++ [ouC k ao g]) ++ F)) _ := hP
  have hD : va_D (fun q => s.heap.size ≤ q) (cT k a6 t6 ++ ((V ++ [ouC k ao g]) ++ F)) := hD
  refine lv_istore (lv' := [(6, .int r6), (5, .int x), (0, .ref b), (1, .ref h), (2, .ref (a6 0)), (3, .ref ao), (4, .int i)]) hx hb dL_law_2693 hl (by decide) rfl (fun ls hl => ?_)
  refine lv_aload_n hx hb dL_law_2695 rfl (lv_at hl 4 rfl) ?_
  obtain ⟨hth, hge⟩ := hrel _ _ _ hq1
  refine cRV (As := []) (ci := 0) ⟨hx, hb, hml, hown, hts⟩ hOK hz hS (zdropP hP) (mtX6_thrown l D k a6 Z hOK t6 x hth) (kX6_thrown hts q1969 rfl rfl ⟨Nat.le_of_ble_eq_true rfl, Nat.le_of_ble_eq_true rfl⟩) 0 rfl rfl rfl hl.1 rfl (lv_room (Nat.le_of_ble_eq_true rfl)) ⟨(by show cells + mc ≤ 603072; exact hcells), (by show slots + ms ≤ 7190634; exact hslots)⟩ dL_law_2696 ?_
  refine lv_iload hx hb dL_law_2699 (lv_at hl 1 rfl) ?_
  refine lv_icmp_eq (tgt := 2706) hx hb dL_law_2701 (by decide) (fun _ => ?_) (fun c1 => absurd rfl c1)
  refine lv_iload hx hb dL_law_2706 (lv_at hl 1 rfl) ?_
  refine lv_if_ne (tgt := 2723) hx hb dL_law_2708 (by decide) (fun _ => ?_) (fun c2 => ?_)
  · refine lv_goto (tgt := 2965) hx hb dL_law_2723 (by decide) ?_
    exact kk _ _ _ _ _ hq1 hP hD hS _ (lv_sub hl [2, 3, 4, 5, 6] rfl)
  · refine lv_aload_n hx hb dL_law_2711 rfl (lv_at hl 5 rfl) ?_
    refine lv_iconst (v := (0 : Int32)) hx hb dL_law_2712 (by decide) ?_
    refine va_lald hx hb hK hP ((cT k a6 t6).length + V.length) 3 (ouIdx _ _ _ _) rfl out_in dL_law_2713 ?_
    rw [show g (Int32.toNatClampNeg (0 : Int32)) = r6.toInt64 from hge c2]
    refine lv_iload hx hb dL_law_2714 (lv_at hl 0 rfl) ?_
    refine lv_i2l (v := r6.toInt64) hx hb dL_law_2716 rfl ?_
    refine lv_lcmp_same hx hb dL_law_2717 ?_
    refine lv_if_eq (tgt := 2723) hx hb dL_law_2718 (by decide) (fun _ => ?_) (fun c3 => absurd rfl c3)
    refine lv_goto (tgt := 2965) hx hb dL_law_2723 (by decide) ?_
    exact kk _ _ _ _ _ hq1 hP hD hS _ (lv_sub hl [2, 3, 4, 5, 6] rfl)
set_option maxRecDepth 100000 in
theorem cs_led {p : Program} {l : Launch} {e : Env} {s : State} {m : MethodId} {below : List Frame} {meth : Method} {c : Code} {Q : State → Prop} {D : va_G} {k : Nat → ClassId} {Z : zZ} {b L : Nat} {xs : Nat → Int32} (hC : lwC p s m c D k Z b L xs) {a6 : Nat → Nat} {h ao : Nat} {i : Int32} (wo F : va_W) {t t6 : Tw} {p1 : Int32} (hp1 : sAt xs L i 1 p1) {p2 : Int32} (hp2 : sAt xs L i 2 p2) {rm : Room} {mc ms : Nat} {P1 : Int32 → (Nat → Int64) → va_W → Prop} {r6 : Int32} (hrc : rm.cells = mc) (hrs : rm.slots = ms) (hfr : rm.frames + 1 ≤ 8192 ∧ 8 + (5 + 11) + rm.locals ≤ 104096) (hM : CtXH l yX0_led cX0_led 5 (some .int) hhX0_led rm Z D zCl wo [.ref h, .int p1, .int (bz (zn p2)), .ref ao] (PWo k ao P1) (fun _ _ => False) mc ms) (hM6 : CtW l yX6_led cX6_led 6 (some .int) rX6_led Z D zCl (cT k a6 t) [.ref (a6 0), .int p1, .int (bz (zn p2))] (fun r' w' => r' = some (.int r6) ∧ w' = cT k a6 t6) 0 0) (hrel : ∀ x g V, P1 x g V → fX6_thrown t6 = some x ∧ (x = 0 → g0 g = r6.toInt64)) {H : Heap} {locs : List Loc} {cells slots : Nat} (hP : va_P D zCl (cT k a6 t ++ (wo ++ F)) H) (hD : va_D (fun q => s.heap.size ≤ q) (cT k a6 t ++ (wo ++ F))) (hS : va_S (fun q => s.heap.size ≤ q) s.heap H locs) (hcells : cells + mc ≤ 603072) (hslots : slots + ms ≤ 7190634) (kk : ∀ x g V H locs, P1 x g V → va_P D zCl (cT k a6 t6 ++ ((V ++ [ouC k ao g]) ++ F)) H → va_D (fun q => s.heap.size ≤ q) (cT k a6 t6 ++ ((V ++ [ouC k ao g]) ++ F)) → va_S (fun q => s.heap.size ≤ q) s.heap H locs → ∀ ls, lv_has ls 7 [(0, .ref b), (1, .ref h), (2, .ref (a6 0)), (3, .ref ao), (4, .int i)] → W p l e room_1 s m #[Value.ref b] below meth c H locs (cells + mc) (slots + ms) Q (F0 m 2965 ls [])) {ls : Array Slot} (hl : lv_has ls 7 [(0, .ref b), (1, .ref h), (2, .ref (a6 0)), (3, .ref ao), (4, .int i)]) : W p l e room_1 s m #[Value.ref b] below meth c H locs cells slots Q (F0 m 2726 ls []) := by
  obtain ⟨hx, hb, hml, hown, hts, hX, hbl, hOK, hz⟩ := hC
  have hK := hOK.1 _ _ _ hz
  have hbA : ¬ (fun q => s.heap.size ≤ q) b := Nat.not_le.mpr hbl
  have hA : ∀ q : Nat, s.heap.size ≤ q → (fun q => s.heap.size ≤ q) q := fun _ h => h
  refine lv_aload_n hx hb dL_law_2726 rfl (lv_at hl 1 rfl) ?_
  refine lw_arg (j := (1 : Int32)) hx hb hX hbl hbA hS hp1 (lv_at hl 0 rfl) (lv_at hl 4 rfl) dL_law_2727 dL_law_2728 dL_law_2730 (by decide) dL_law_2731 dL_law_2732 ?_
  refine lw_arg (j := (2 : Int32)) hx hb hX hbl hbA hS hp2 (lv_at hl 0 rfl) (lv_at hl 4 rfl) dL_law_2733 dL_law_2734 dL_law_2736 (by decide) dL_law_2737 dL_law_2738 ?_
  refine lw_argz hx hb dL_law_2739 dL_law_2742 dL_law_2743 dL_law_2746 ?_
  refine lv_aload_n hx hb dL_law_2747 rfl (lv_at hl 3 rfl) ?_
  refine cXSH (cT k a6 t) wo F (As := [.ref h, .int p1, .int (bz (zn p2)), .ref ao]) ⟨hx, hb, hml, hown, hts⟩ hOK hz hS hA hP hD hM (kX0_led hts q1878 hrc hrs ⟨(by show rm.frames + 1 ≤ 8192; omega), (by show 8 + (5 + 11) + rm.locals ≤ 104096; omega)⟩) rfl hl.1 rfl (lv_room (Nat.le_of_ble_eq_true rfl)) ⟨hcells, hslots⟩ dL_law_2748 (fun E_ w_ ce_ q9_ H locs hq hP hD hS hce hcv hcl => hq.elim) (fun r_ w_ H locs hq hP hD hS => ?_)
  obtain ⟨x, g, V, hq1, rfl, rfl⟩ := hq
  refine lv_istore (lv' := [(5, .int x), (0, .ref b), (1, .ref h), (2, .ref (a6 0)), (3, .ref ao), (4, .int i)]) hx hb dL_law_2751 hl (by decide) rfl (fun ls hl => ?_)
  refine lv_aload_n hx hb dL_law_2753 rfl (lv_at hl 3 rfl) ?_
  refine lw_arg (j := (1 : Int32)) hx hb hX hbl hbA hS hp1 (lv_at hl 1 rfl) (lv_at hl 5 rfl) dL_law_2754 dL_law_2755 dL_law_2757 (by decide) dL_law_2758 dL_law_2759 ?_
  refine lw_arg (j := (2 : Int32)) hx hb hX hbl hbA hS hp2 (lv_at hl 1 rfl) (lv_at hl 5 rfl) dL_law_2760 dL_law_2761 dL_law_2763 (by decide) dL_law_2764 dL_law_2765 ?_
  refine lw_argz hx hb dL_law_2766 dL_law_2769 dL_law_2770 dL_law_2773 ?_
  refine cWV [] (cT k a6 t) ((V ++ [ouC k ao g]) ++ F) (As := [.int p1, .int (bz (zn p2))]) (ci := 0) ⟨hx, hb, hml, hown, hts⟩ hOK hz hS hA hP hD hM6 (kX6_led hts q2455 rfl rfl ⟨Nat.le_of_ble_eq_true rfl, Nat.le_of_ble_eq_true rfl⟩) 0 rfl rfl rfl hl.1 rfl (lv_room (Nat.le_of_ble_eq_true rfl)) ⟨hcells, hslots⟩ dL_law_2774 (fun r_ w_6 H locs hq hP hD hS => ?_)
  obtain ⟨rfl, rfl⟩ := hq
  have hP : va_P D zCl (cT k a6 t6 ++ ((V ++ [ouC k ao g]) ++ F)) _ := hP
  have hD : va_D (fun q => s.heap.size ≤ q) (cT k a6 t6 ++ ((V ++ [ouC k ao g]) ++ F)) := hD
  refine lv_istore (lv' := [(6, .int r6), (5, .int x), (0, .ref b), (1, .ref h), (2, .ref (a6 0)), (3, .ref ao), (4, .int i)]) hx hb dL_law_2777 hl (by decide) rfl (fun ls hl => ?_)
  refine lv_aload_n hx hb dL_law_2779 rfl (lv_at hl 4 rfl) ?_
  obtain ⟨hth, hge⟩ := hrel _ _ _ hq1
  refine cRV (As := []) (ci := 0) ⟨hx, hb, hml, hown, hts⟩ hOK hz hS (zdropP hP) (mtX6_thrown l D k a6 Z hOK t6 x hth) (kX6_thrown hts q1969 rfl rfl ⟨Nat.le_of_ble_eq_true rfl, Nat.le_of_ble_eq_true rfl⟩) 0 rfl rfl rfl hl.1 rfl (lv_room (Nat.le_of_ble_eq_true rfl)) ⟨(by show cells + mc ≤ 603072; exact hcells), (by show slots + ms ≤ 7190634; exact hslots)⟩ dL_law_2780 ?_
  refine lv_iload hx hb dL_law_2783 (lv_at hl 1 rfl) ?_
  refine lv_icmp_eq (tgt := 2790) hx hb dL_law_2785 (by decide) (fun _ => ?_) (fun c1 => absurd rfl c1)
  refine lv_iload hx hb dL_law_2790 (lv_at hl 1 rfl) ?_
  refine lv_if_ne (tgt := 2807) hx hb dL_law_2792 (by decide) (fun _ => ?_) (fun c2 => ?_)
  · refine lv_goto (tgt := 2965) hx hb dL_law_2807 (by decide) ?_
    exact kk _ _ _ _ _ hq1 hP hD hS _ (lv_sub hl [2, 3, 4, 5, 6] rfl)
  · refine lv_aload_n hx hb dL_law_2795 rfl (lv_at hl 5 rfl) ?_
    refine lv_iconst (v := (0 : Int32)) hx hb dL_law_2796 (by decide) ?_
    refine va_lald hx hb hK hP ((cT k a6 t6).length + V.length) 3 (ouIdx _ _ _ _) rfl out_in dL_law_2797 ?_
    rw [show g (Int32.toNatClampNeg (0 : Int32)) = r6.toInt64 from hge c2]
    refine lv_iload hx hb dL_law_2798 (lv_at hl 0 rfl) ?_
    refine lv_i2l (v := r6.toInt64) hx hb dL_law_2800 rfl ?_
    refine lv_lcmp_same hx hb dL_law_2801 ?_
    refine lv_if_eq (tgt := 2807) hx hb dL_law_2802 (by decide) (fun _ => ?_) (fun c3 => absurd rfl c3)
    refine lv_goto (tgt := 2965) hx hb dL_law_2807 (by decide) ?_
    exact kk _ _ _ _ _ hq1 hP hD hS _ (lv_sub hl [2, 3, 4, 5, 6] rfl)
set_option maxRecDepth 100000 in
theorem cs_log {p : Program} {l : Launch} {e : Env} {s : State} {m : MethodId} {below : List Frame} {meth : Method} {c : Code} {Q : State → Prop} {D : va_G} {k : Nat → ClassId} {Z : zZ} {b L : Nat} {xs : Nat → Int32} (hC : lwC p s m c D k Z b L xs) {a6 : Nat → Nat} {h ao : Nat} {i : Int32} (wo F : va_W) {t t6 : Tw} {p1 : Int32} (hp1 : sAt xs L i 1 p1) {p2 : Int32} (hp2 : sAt xs L i 2 p2) {rm : Room} {mc ms : Nat} {P1 : Int32 → (Nat → Int64) → va_W → Prop} {r6 : Int32} (hrc : rm.cells = mc) (hrs : rm.slots = ms) (hfr : rm.frames + 1 ≤ 8192 ∧ 8 + (5 + 11) + rm.locals ≤ 104096) (hM : CtXH l yX0_log cX0_log 5 (some .int) hhX0_log rm Z D zCl wo [.ref h, .int p1, .int p2, .ref ao] (PWo k ao P1) (fun _ _ => False) mc ms) (hM6 : CtW l yX6_log cX6_log 3 (some .int) rX6_log Z D zCl (cT k a6 t) [.ref (a6 0), .int p1, .int p2] (fun r' w' => r' = some (.int r6) ∧ w' = cT k a6 t6) 0 0) (hrel : ∀ x g V, P1 x g V → fX6_thrown t6 = some x ∧ (x = 0 → g0 g = r6.toInt64)) {H : Heap} {locs : List Loc} {cells slots : Nat} (hP : va_P D zCl (cT k a6 t ++ (wo ++ F)) H) (hD : va_D (fun q => s.heap.size ≤ q) (cT k a6 t ++ (wo ++ F))) (hS : va_S (fun q => s.heap.size ≤ q) s.heap H locs) (hcells : cells + mc ≤ 603072) (hslots : slots + ms ≤ 7190634) (kk : ∀ x g V H locs, P1 x g V → va_P D zCl (cT k a6 t6 ++ ((V ++ [ouC k ao g]) ++ F)) H → va_D (fun q => s.heap.size ≤ q) (cT k a6 t6 ++ ((V ++ [ouC k ao g]) ++ F)) → va_S (fun q => s.heap.size ≤ q) s.heap H locs → ∀ ls, lv_has ls 7 [(0, .ref b), (1, .ref h), (2, .ref (a6 0)), (3, .ref ao), (4, .int i)] → W p l e room_1 s m #[Value.ref b] below meth c H locs (cells + mc) (slots + ms) Q (F0 m 2965 ls [])) {ls : Array Slot} (hl : lv_has ls 7 [(0, .ref b), (1, .ref h), (2, .ref (a6 0)), (3, .ref ao), (4, .int i)]) : W p l e room_1 s m #[Value.ref b] below meth c H locs cells slots Q (F0 m 2810 ls []) := by
  obtain ⟨hx, hb, hml, hown, hts, hX, hbl, hOK, hz⟩ := hC
  have hK := hOK.1 _ _ _ hz
  have hbA : ¬ (fun q => s.heap.size ≤ q) b := Nat.not_le.mpr hbl
  have hA : ∀ q : Nat, s.heap.size ≤ q → (fun q => s.heap.size ≤ q) q := fun _ h => h
  refine lv_aload_n hx hb dL_law_2810 rfl (lv_at hl 1 rfl) ?_
  refine lw_arg (j := (1 : Int32)) hx hb hX hbl hbA hS hp1 (lv_at hl 0 rfl) (lv_at hl 4 rfl) dL_law_2811 dL_law_2812 dL_law_2814 (by decide) dL_law_2815 dL_law_2816 ?_
  refine lw_arg (j := (2 : Int32)) hx hb hX hbl hbA hS hp2 (lv_at hl 0 rfl) (lv_at hl 4 rfl) dL_law_2817 dL_law_2818 dL_law_2820 (by decide) dL_law_2821 dL_law_2822 ?_
  refine lv_aload_n hx hb dL_law_2823 rfl (lv_at hl 3 rfl) ?_
  refine cXSH (cT k a6 t) wo F (As := [.ref h, .int p1, .int p2, .ref ao]) ⟨hx, hb, hml, hown, hts⟩ hOK hz hS hA hP hD hM (kX0_log hts q1889 hrc hrs ⟨(by show rm.frames + 1 ≤ 8192; omega), (by show 8 + (5 + 11) + rm.locals ≤ 104096; omega)⟩) rfl hl.1 rfl (lv_room (Nat.le_of_ble_eq_true rfl)) ⟨hcells, hslots⟩ dL_law_2824 (fun E_ w_ ce_ q9_ H locs hq hP hD hS hce hcv hcl => hq.elim) (fun r_ w_ H locs hq hP hD hS => ?_)
  obtain ⟨x, g, V, hq1, rfl, rfl⟩ := hq
  refine lv_istore (lv' := [(5, .int x), (0, .ref b), (1, .ref h), (2, .ref (a6 0)), (3, .ref ao), (4, .int i)]) hx hb dL_law_2827 hl (by decide) rfl (fun ls hl => ?_)
  refine lv_aload_n hx hb dL_law_2829 rfl (lv_at hl 3 rfl) ?_
  refine lw_arg (j := (1 : Int32)) hx hb hX hbl hbA hS hp1 (lv_at hl 1 rfl) (lv_at hl 5 rfl) dL_law_2830 dL_law_2831 dL_law_2833 (by decide) dL_law_2834 dL_law_2835 ?_
  refine lw_arg (j := (2 : Int32)) hx hb hX hbl hbA hS hp2 (lv_at hl 1 rfl) (lv_at hl 5 rfl) dL_law_2836 dL_law_2837 dL_law_2839 (by decide) dL_law_2840 dL_law_2841 ?_
  refine cWV [] (cT k a6 t) ((V ++ [ouC k ao g]) ++ F) (As := [.int p1, .int p2]) (ci := 0) ⟨hx, hb, hml, hown, hts⟩ hOK hz hS hA hP hD hM6 (kX6_log hts q2463 rfl rfl ⟨Nat.le_of_ble_eq_true rfl, Nat.le_of_ble_eq_true rfl⟩) 0 rfl rfl rfl hl.1 rfl (lv_room (Nat.le_of_ble_eq_true rfl)) ⟨hcells, hslots⟩ dL_law_2842 (fun r_ w_6 H locs hq hP hD hS => ?_)
  obtain ⟨rfl, rfl⟩ := hq
  have hP : va_P D zCl (cT k a6 t6 ++ ((V ++ [ouC k ao g]) ++ F)) _ := hP
  have hD : va_D (fun q => s.heap.size ≤ q) (cT k a6 t6 ++ ((V ++ [ouC k ao g]) ++ F)) := hD
  refine lv_istore (lv' := [(6, .int r6), (5, .int x), (0, .ref b), (1, .ref h), (2, .ref (a6 0)), (3, .ref ao), (4, .int i)]) hx hb dL_law_2845 hl (by decide) rfl (fun ls hl => ?_)
  refine lv_aload_n hx hb dL_law_2847 rfl (lv_at hl 4 rfl) ?_
  obtain ⟨hth, hge⟩ := hrel _ _ _ hq1
  refine cRV (As := []) (ci := 0) ⟨hx, hb, hml, hown, hts⟩ hOK hz hS (zdropP hP) (mtX6_thrown l D k a6 Z hOK t6 x hth) (kX6_thrown hts q1969 rfl rfl ⟨Nat.le_of_ble_eq_true rfl, Nat.le_of_ble_eq_true rfl⟩) 0 rfl rfl rfl hl.1 rfl (lv_room (Nat.le_of_ble_eq_true rfl)) ⟨(by show cells + mc ≤ 603072; exact hcells), (by show slots + ms ≤ 7190634; exact hslots)⟩ dL_law_2848 ?_
  refine lv_iload hx hb dL_law_2851 (lv_at hl 1 rfl) ?_
  refine lv_icmp_eq (tgt := 2858) hx hb dL_law_2853 (by decide) (fun _ => ?_) (fun c1 => absurd rfl c1)
  refine lv_iload hx hb dL_law_2858 (lv_at hl 1 rfl) ?_
  refine lv_if_ne (tgt := 2875) hx hb dL_law_2860 (by decide) (fun _ => ?_) (fun c2 => ?_)
  · refine lv_goto (tgt := 2965) hx hb dL_law_2875 (by decide) ?_
    exact kk _ _ _ _ _ hq1 hP hD hS _ (lv_sub hl [2, 3, 4, 5, 6] rfl)
  · refine lv_aload_n hx hb dL_law_2863 rfl (lv_at hl 5 rfl) ?_
    refine lv_iconst (v := (0 : Int32)) hx hb dL_law_2864 (by decide) ?_
    refine va_lald hx hb hK hP ((cT k a6 t6).length + V.length) 3 (ouIdx _ _ _ _) rfl out_in dL_law_2865 ?_
    rw [show g (Int32.toNatClampNeg (0 : Int32)) = r6.toInt64 from hge c2]
    refine lv_iload hx hb dL_law_2866 (lv_at hl 0 rfl) ?_
    refine lv_i2l (v := r6.toInt64) hx hb dL_law_2868 rfl ?_
    refine lv_lcmp_same hx hb dL_law_2869 ?_
    refine lv_if_eq (tgt := 2875) hx hb dL_law_2870 (by decide) (fun _ => ?_) (fun c3 => absurd rfl c3)
    refine lv_goto (tgt := 2965) hx hb dL_law_2875 (by decide) ?_
    exact kk _ _ _ _ _ hq1 hP hD hS _ (lv_sub hl [2, 3, 4, 5, 6] rfl)
set_option maxRecDepth 100000 in
theorem cs_seed {p : Program} {l : Launch} {e : Env} {s : State} {m : MethodId} {below : List Frame} {meth : Method} {c : Code} {Q : State → Prop} {D : va_G} {k : Nat → ClassId} {Z : zZ} {b L : Nat} {xs : Nat → Int32} (hC : lwC p s m c D k Z b L xs) {a6 : Nat → Nat} {h ao : Nat} {i : Int32} (wo F : va_W) {t t6 : Tw} {p1 : Int32} (hp1 : sAt xs L i 1 p1) {fs : List Value} (hws : wo[0]? = some (h, .inr (1, fs))) {rm : Room} {mc ms : Nat} {P1 : Int32 → va_W → Prop} {r6 : Int32} (hrc : rm.cells = mc) (hrs : rm.slots = ms) (hfr : rm.frames + 1 ≤ 8192 ∧ 8 + (3 + 11) + rm.locals ≤ 104096) (hM : CtW l yX1_seed cX1_seed 3 (some .int) rm Z D zCl wo [.ref h, .int p1] (PXo P1) mc ms) (hM6 : CtW l yX6_seed cX6_seed 3 (some .int) rX6_seed Z D zCl (cT k a6 t) [.ref (a6 0), .int p1] (fun r' w' => r' = some (.int r6) ∧ w' = cT k a6 t6) 0 0) (hrel : ∀ x V, P1 x V → x = r6) {H : Heap} {locs : List Loc} {cells slots : Nat} (hP : va_P D zCl (cT k a6 t ++ (wo ++ F)) H) (hD : va_D (fun q => s.heap.size ≤ q) (cT k a6 t ++ (wo ++ F))) (hS : va_S (fun q => s.heap.size ≤ q) s.heap H locs) (hcells : cells + mc ≤ 603072) (hslots : slots + ms ≤ 7190634) (kk : ∀ x V H locs, P1 x V → va_P D zCl (cT k a6 t6 ++ (V ++ F)) H → va_D (fun q => s.heap.size ≤ q) (cT k a6 t6 ++ (V ++ F)) → va_S (fun q => s.heap.size ≤ q) s.heap H locs → ∀ ls, lv_has ls 7 [(0, .ref b), (1, .ref h), (2, .ref (a6 0)), (3, .ref ao), (4, .int i)] → W p l e room_1 s m #[Value.ref b] below meth c H locs (cells + mc) (slots + ms) Q (F0 m 2965 ls [])) {ls : Array Slot} (hl : lv_has ls 7 [(0, .ref b), (1, .ref h), (2, .ref (a6 0)), (3, .ref ao), (4, .int i)]) : W p l e room_1 s m #[Value.ref b] below meth c H locs cells slots Q (F0 m 2878 ls []) := by
  obtain ⟨hx, hb, hml, hown, hts, hX, hbl, hOK, hz⟩ := hC
  have hK := hOK.1 _ _ _ hz
  have hbA : ¬ (fun q => s.heap.size ≤ q) b := Nat.not_le.mpr hbl
  have hA : ∀ q : Nat, s.heap.size ≤ q → (fun q => s.heap.size ≤ q) q := fun _ h => h
  refine lv_aload_n hx hb dL_law_2878 rfl (lv_at hl 1 rfl) ?_
  refine lw_arg (j := (1 : Int32)) hx hb hX hbl hbA hS hp1 (lv_at hl 0 rfl) (lv_at hl 4 rfl) dL_law_2879 dL_law_2880 dL_law_2882 (by decide) dL_law_2883 dL_law_2884 ?_
  refine cWV (cT k a6 t) wo F (As := [.int p1]) (ci := 1) ⟨hx, hb, hml, hown, hts⟩ hOK hz hS hA hP hD hM (kX1_seed hts q702 hrc hrs ⟨(by show rm.frames + 1 ≤ 8192; omega), (by show 8 + (3 + 11) + rm.locals ≤ 104096; omega)⟩) 0 hws rfl rfl hl.1 rfl (lv_room (Nat.le_of_ble_eq_true rfl)) ⟨hcells, hslots⟩ dL_law_2885 (fun r_ w_ H locs hq hP hD hS => ?_)
  obtain ⟨x, hq1, rfl⟩ := hq
  refine lv_aload_n hx hb dL_law_2888 rfl (lv_at hl 2 rfl) ?_
  refine lw_arg (j := (1 : Int32)) hx hb hX hbl hbA hS hp1 (lv_at hl 0 rfl) (lv_at hl 4 rfl) dL_law_2889 dL_law_2890 dL_law_2892 (by decide) dL_law_2893 dL_law_2894 ?_
  refine cWV [] (cT k a6 t) (w_ ++ F) (As := [.int p1]) (ci := 0) ⟨hx, hb, hml, hown, hts⟩ hOK hz hS hA hP hD hM6 (kX6_seed hts q2467 rfl rfl ⟨Nat.le_of_ble_eq_true rfl, Nat.le_of_ble_eq_true rfl⟩) 0 rfl rfl rfl hl.1 rfl (lv_room (Nat.le_of_ble_eq_true rfl)) ⟨hcells, hslots⟩ dL_law_2895 (fun r_ w_6 H locs hq hP hD hS => ?_)
  obtain ⟨rfl, rfl⟩ := hq
  have hP : va_P D zCl (cT k a6 t6 ++ (w_ ++ F)) _ := hP
  have hD : va_D (fun q => s.heap.size ≤ q) (cT k a6 t6 ++ (w_ ++ F)) := hD
  have hre := hrel _ _ hq1
  subst hre
  refine lv_icmp_eq (tgt := 2965) hx hb dL_law_2898 (by decide) (fun _ => ?_) (fun c1 => absurd rfl c1)
  exact kk _ _ _ _ hq1 hP hD hS _ hl
set_option maxRecDepth 100000 in
theorem cs_undo {p : Program} {l : Launch} {e : Env} {s : State} {m : MethodId} {below : List Frame} {meth : Method} {c : Code} {Q : State → Prop} {D : va_G} {k : Nat → ClassId} {Z : zZ} {b L : Nat} {xs : Nat → Int32} (hC : lwC p s m c D k Z b L xs) {a6 : Nat → Nat} {h ao : Nat} {i : Int32} (wo F : va_W) {t t6 : Tw} {fs : List Value} (hws : wo[0]? = some (h, .inr (1, fs))) {rm : Room} {mc ms : Nat} {P1 : Int32 → va_W → Prop} {r6 : Bool} (hrc : rm.cells = mc) (hrs : rm.slots = ms) (hfr : rm.frames + 1 ≤ 8192 ∧ 8 + (1 + 11) + rm.locals ≤ 104096) (hM : CtW l yX1_undo cX1_undo 1 (some .boolean) rm Z D zCl wo [.ref h] (PXo P1) mc ms) (hM6 : CtW l yX6_undo cX6_undo 2 (some .boolean) rX6_undo Z D zCl (cT k a6 t) [.ref (a6 0)] (fun r' w' => r' = some (.int (bz r6)) ∧ w' = cT k a6 t6) 0 0) (hrel : ∀ x V, P1 x V → x = bz r6) {H : Heap} {locs : List Loc} {cells slots : Nat} (hP : va_P D zCl (cT k a6 t ++ (wo ++ F)) H) (hD : va_D (fun q => s.heap.size ≤ q) (cT k a6 t ++ (wo ++ F))) (hS : va_S (fun q => s.heap.size ≤ q) s.heap H locs) (hcells : cells + mc ≤ 603072) (hslots : slots + ms ≤ 7190634) (kk : ∀ x V H locs, P1 x V → va_P D zCl (cT k a6 t6 ++ (V ++ F)) H → va_D (fun q => s.heap.size ≤ q) (cT k a6 t6 ++ (V ++ F)) → va_S (fun q => s.heap.size ≤ q) s.heap H locs → ∀ ls, lv_has ls 7 [(0, .ref b), (1, .ref h), (2, .ref (a6 0)), (3, .ref ao), (4, .int i)] → W p l e room_1 s m #[Value.ref b] below meth c H locs (cells + mc) (slots + ms) Q (F0 m 2965 ls [])) {ls : Array Slot} (hl : lv_has ls 7 [(0, .ref b), (1, .ref h), (2, .ref (a6 0)), (3, .ref ao), (4, .int i)]) : W p l e room_1 s m #[Value.ref b] below meth c H locs cells slots Q (F0 m 2903 ls []) := by
  obtain ⟨hx, hb, hml, hown, hts, hX, hbl, hOK, hz⟩ := hC
  have hK := hOK.1 _ _ _ hz
  have hbA : ¬ (fun q => s.heap.size ≤ q) b := Nat.not_le.mpr hbl
  have hA : ∀ q : Nat, s.heap.size ≤ q → (fun q => s.heap.size ≤ q) q := fun _ h => h
  refine lv_aload_n hx hb dL_law_2903 rfl (lv_at hl 1 rfl) ?_
  refine cWV (cT k a6 t) wo F (As := []) (ci := 1) ⟨hx, hb, hml, hown, hts⟩ hOK hz hS hA hP hD hM (kX1_undo hts q706 hrc hrs ⟨(by show rm.frames + 1 ≤ 8192; omega), (by show 8 + (1 + 11) + rm.locals ≤ 104096; omega)⟩) 0 hws rfl rfl hl.1 rfl (lv_room (Nat.le_of_ble_eq_true rfl)) ⟨hcells, hslots⟩ dL_law_2904 (fun r_ w_ H locs hq hP hD hS => ?_)
  obtain ⟨x, hq1, rfl⟩ := hq
  refine lv_aload_n hx hb dL_law_2907 rfl (lv_at hl 2 rfl) ?_
  refine cWV [] (cT k a6 t) (w_ ++ F) (As := []) (ci := 0) ⟨hx, hb, hml, hown, hts⟩ hOK hz hS hA hP hD hM6 (kX6_undo hts q2471 rfl rfl ⟨Nat.le_of_ble_eq_true rfl, Nat.le_of_ble_eq_true rfl⟩) 0 rfl rfl rfl hl.1 rfl (lv_room (Nat.le_of_ble_eq_true rfl)) ⟨hcells, hslots⟩ dL_law_2908 (fun r_ w_6 H locs hq hP hD hS => ?_)
  obtain ⟨rfl, rfl⟩ := hq
  have hP : va_P D zCl (cT k a6 t6 ++ (w_ ++ F)) _ := hP
  have hD : va_D (fun q => s.heap.size ≤ q) (cT k a6 t6 ++ (w_ ++ F)) := hD
  have hre := hrel _ _ hq1
  subst hre
  refine lv_icmp_eq (tgt := 2965) hx hb dL_law_2911 (by decide) (fun _ => ?_) (fun c1 => absurd rfl c1)
  exact kk _ _ _ _ hq1 hP hD hS _ hl
set_option maxRecDepth 100000 in
theorem cs_image {p : Program} {l : Launch} {e : Env} {s : State} {m : MethodId} {below : List Frame} {meth : Method} {c : Code} {Q : State → Prop} {D : va_G} {k : Nat → ClassId} {Z : zZ} {b L : Nat} {xs : Nat → Int32} (hC : lwC p s m c D k Z b L xs) {a6 : Nat → Nat} {h ao : Nat} {i : Int32} (wo F : va_W) {t t6 : Tw} {fs : List Value} (hws : wo[0]? = some (h, .inr (1, fs))) {rm : Room} {mc ms : Nat} {P1 : va_W → Prop} (hrc : rm.cells = mc) (hrs : rm.slots = ms) (hfr : rm.frames + 1 ≤ 8192 ∧ 8 + (1 + 11) + rm.locals ≤ 104096) (hM : CtW l yX1_image cX1_image 1 none rm Z D zCl wo [.ref h] (fun r' w' => r' = none ∧ P1 w') mc ms) (hM6 : CtW l yX6_image cX6_image 2 none rX6_image Z D zCl (cT k a6 t) [.ref (a6 0)] (fun r' w' => r' = none ∧ w' = cT k a6 t6) 0 0)  {H : Heap} {locs : List Loc} {cells slots : Nat} (hP : va_P D zCl (cT k a6 t ++ (wo ++ F)) H) (hD : va_D (fun q => s.heap.size ≤ q) (cT k a6 t ++ (wo ++ F))) (hS : va_S (fun q => s.heap.size ≤ q) s.heap H locs) (hcells : cells + mc ≤ 603072) (hslots : slots + ms ≤ 7190634) (kk : ∀ V H locs, P1 V → va_P D zCl (cT k a6 t6 ++ (V ++ F)) H → va_D (fun q => s.heap.size ≤ q) (cT k a6 t6 ++ (V ++ F)) → va_S (fun q => s.heap.size ≤ q) s.heap H locs → ∀ ls, lv_has ls 7 [(0, .ref b), (1, .ref h), (2, .ref (a6 0)), (3, .ref ao), (4, .int i)] → W p l e room_1 s m #[Value.ref b] below meth c H locs (cells + mc) (slots + ms) Q (F0 m 2965 ls [])) {ls : Array Slot} (hl : lv_has ls 7 [(0, .ref b), (1, .ref h), (2, .ref (a6 0)), (3, .ref ao), (4, .int i)]) : W p l e room_1 s m #[Value.ref b] below meth c H locs cells slots Q (F0 m 2916 ls []) := by
  obtain ⟨hx, hb, hml, hown, hts, hX, hbl, hOK, hz⟩ := hC
  have hK := hOK.1 _ _ _ hz
  have hbA : ¬ (fun q => s.heap.size ≤ q) b := Nat.not_le.mpr hbl
  have hA : ∀ q : Nat, s.heap.size ≤ q → (fun q => s.heap.size ≤ q) q := fun _ h => h
  refine lv_aload_n hx hb dL_law_2916 rfl (lv_at hl 1 rfl) ?_
  refine cWV (cT k a6 t) wo F (As := []) (ci := 1) ⟨hx, hb, hml, hown, hts⟩ hOK hz hS hA hP hD hM (kX1_image hts q724 hrc hrs ⟨(by show rm.frames + 1 ≤ 8192; omega), (by show 8 + (1 + 11) + rm.locals ≤ 104096; omega)⟩) 0 hws rfl rfl hl.1 rfl (lv_room (Nat.le_of_ble_eq_true rfl)) ⟨hcells, hslots⟩ dL_law_2917 (fun r_ w_ H locs hq hP hD hS => ?_)
  obtain ⟨rfl, hq1⟩ := hq
  refine lv_aload_n hx hb dL_law_2920 rfl (lv_at hl 2 rfl) ?_
  refine cWV [] (cT k a6 t) (w_ ++ F) (As := []) (ci := 0) ⟨hx, hb, hml, hown, hts⟩ hOK hz hS hA hP hD hM6 (kX6_image hts q2475 rfl rfl ⟨Nat.le_of_ble_eq_true rfl, Nat.le_of_ble_eq_true rfl⟩) 0 rfl rfl rfl hl.1 rfl (lv_room (Nat.le_of_ble_eq_true rfl)) ⟨hcells, hslots⟩ dL_law_2921 (fun r_ w_6 H locs hq hP hD hS => ?_)
  obtain ⟨rfl, rfl⟩ := hq
  have hP : va_P D zCl (cT k a6 t6 ++ (w_ ++ F)) _ := hP
  have hD : va_D (fun q => s.heap.size ≤ q) (cT k a6 t6 ++ (w_ ++ F)) := hD
  refine lv_goto (tgt := 2965) hx hb dL_law_2924 (by decide) ?_
  exact kk _ _ _ hq1 hP hD hS _ hl
set_option maxRecDepth 100000 in
theorem cs_back {p : Program} {l : Launch} {e : Env} {s : State} {m : MethodId} {below : List Frame} {meth : Method} {c : Code} {Q : State → Prop} {D : va_G} {k : Nat → ClassId} {Z : zZ} {b L : Nat} {xs : Nat → Int32} (hC : lwC p s m c D k Z b L xs) {a6 : Nat → Nat} {h ao : Nat} {i : Int32} (wo F : va_W) {t t6 : Tw} {fs : List Value} (hws : wo[0]? = some (h, .inr (1, fs))) {rm : Room} {mc ms : Nat} {P1 : Int32 → va_W → Prop} {r6 : Bool} (hrc : rm.cells = mc) (hrs : rm.slots = ms) (hfr : rm.frames + 1 ≤ 8192 ∧ 8 + (1 + 11) + rm.locals ≤ 104096) (hM : CtW l yX1_back cX1_back 1 (some .boolean) rm Z D zCl wo [.ref h] (PXo P1) mc ms) (hM6 : CtW l yX6_back cX6_back 2 (some .boolean) rX6_back Z D zCl (cT k a6 t) [.ref (a6 0)] (fun r' w' => r' = some (.int (bz r6)) ∧ w' = cT k a6 t6) 0 0) (hrel : ∀ x V, P1 x V → x = bz r6) {H : Heap} {locs : List Loc} {cells slots : Nat} (hP : va_P D zCl (cT k a6 t ++ (wo ++ F)) H) (hD : va_D (fun q => s.heap.size ≤ q) (cT k a6 t ++ (wo ++ F))) (hS : va_S (fun q => s.heap.size ≤ q) s.heap H locs) (hcells : cells + mc ≤ 603072) (hslots : slots + ms ≤ 7190634) (kk : ∀ x V H locs, P1 x V → va_P D zCl (cT k a6 t6 ++ (V ++ F)) H → va_D (fun q => s.heap.size ≤ q) (cT k a6 t6 ++ (V ++ F)) → va_S (fun q => s.heap.size ≤ q) s.heap H locs → ∀ ls, lv_has ls 7 [(0, .ref b), (1, .ref h), (2, .ref (a6 0)), (3, .ref ao), (4, .int i)] → W p l e room_1 s m #[Value.ref b] below meth c H locs (cells + mc) (slots + ms) Q (F0 m 2965 ls [])) {ls : Array Slot} (hl : lv_has ls 7 [(0, .ref b), (1, .ref h), (2, .ref (a6 0)), (3, .ref ao), (4, .int i)]) : W p l e room_1 s m #[Value.ref b] below meth c H locs cells slots Q (F0 m 2927 ls []) := by
  obtain ⟨hx, hb, hml, hown, hts, hX, hbl, hOK, hz⟩ := hC
  have hK := hOK.1 _ _ _ hz
  have hbA : ¬ (fun q => s.heap.size ≤ q) b := Nat.not_le.mpr hbl
  have hA : ∀ q : Nat, s.heap.size ≤ q → (fun q => s.heap.size ≤ q) q := fun _ h => h
  refine lv_aload_n hx hb dL_law_2927 rfl (lv_at hl 1 rfl) ?_
  refine cWV (cT k a6 t) wo F (As := []) (ci := 1) ⟨hx, hb, hml, hown, hts⟩ hOK hz hS hA hP hD hM (kX1_back hts q728 hrc hrs ⟨(by show rm.frames + 1 ≤ 8192; omega), (by show 8 + (1 + 11) + rm.locals ≤ 104096; omega)⟩) 0 hws rfl rfl hl.1 rfl (lv_room (Nat.le_of_ble_eq_true rfl)) ⟨hcells, hslots⟩ dL_law_2928 (fun r_ w_ H locs hq hP hD hS => ?_)
  obtain ⟨x, hq1, rfl⟩ := hq
  refine lv_aload_n hx hb dL_law_2931 rfl (lv_at hl 2 rfl) ?_
  refine cWV [] (cT k a6 t) (w_ ++ F) (As := []) (ci := 0) ⟨hx, hb, hml, hown, hts⟩ hOK hz hS hA hP hD hM6 (kX6_back hts q2479 rfl rfl ⟨Nat.le_of_ble_eq_true rfl, Nat.le_of_ble_eq_true rfl⟩) 0 rfl rfl rfl hl.1 rfl (lv_room (Nat.le_of_ble_eq_true rfl)) ⟨hcells, hslots⟩ dL_law_2932 (fun r_ w_6 H locs hq hP hD hS => ?_)
  obtain ⟨rfl, rfl⟩ := hq
  have hP : va_P D zCl (cT k a6 t6 ++ (w_ ++ F)) _ := hP
  have hD : va_D (fun q => s.heap.size ≤ q) (cT k a6 t6 ++ (w_ ++ F)) := hD
  have hre := hrel _ _ hq1
  subst hre
  refine lv_icmp_eq (tgt := 2965) hx hb dL_law_2935 (by decide) (fun _ => ?_) (fun c1 => absurd rfl c1)
  exact kk _ _ _ _ hq1 hP hD hS _ hl
set_option maxRecDepth 100000 in
theorem cs_count {p : Program} {l : Launch} {e : Env} {s : State} {m : MethodId} {below : List Frame} {meth : Method} {c : Code} {Q : State → Prop} {D : va_G} {k : Nat → ClassId} {Z : zZ} {b L : Nat} {xs : Nat → Int32} (hC : lwC p s m c D k Z b L xs) {a6 : Nat → Nat} {h ao : Nat} {i : Int32} (wo F : va_W) {t t6 : Tw} {p1 : Int32} (hp1 : sAt xs L i 1 p1) {fs : List Value} (hws : wo[0]? = some (h, .inr (1, fs))) {rm : Room} {mc ms : Nat} {P1 : Int32 → va_W → Prop} {r6 : Int32} (hrc : rm.cells = mc) (hrs : rm.slots = ms) (hfr : rm.frames + 1 ≤ 8192 ∧ 8 + (3 + 11) + rm.locals ≤ 104096) (hM : CtW l yX1_count cX1_count 3 (some .int) rm Z D zCl wo [.ref h, .int p1] (PXo P1) mc ms) (hM6 : CtW l yX6_count cX6_count 2 (some .int) rX6_count Z D zCl (cT k a6 t) [.ref (a6 0), .int p1] (fun r' w' => r' = some (.int r6) ∧ w' = cT k a6 t6) 0 0) (hrel : ∀ x V, P1 x V → x = r6) {H : Heap} {locs : List Loc} {cells slots : Nat} (hP : va_P D zCl (cT k a6 t ++ (wo ++ F)) H) (hD : va_D (fun q => s.heap.size ≤ q) (cT k a6 t ++ (wo ++ F))) (hS : va_S (fun q => s.heap.size ≤ q) s.heap H locs) (hcells : cells + mc ≤ 603072) (hslots : slots + ms ≤ 7190634) (kk : ∀ x V H locs, P1 x V → va_P D zCl (cT k a6 t6 ++ (V ++ F)) H → va_D (fun q => s.heap.size ≤ q) (cT k a6 t6 ++ (V ++ F)) → va_S (fun q => s.heap.size ≤ q) s.heap H locs → ∀ ls, lv_has ls 7 [(0, .ref b), (1, .ref h), (2, .ref (a6 0)), (3, .ref ao), (4, .int i)] → W p l e room_1 s m #[Value.ref b] below meth c H locs (cells + mc) (slots + ms) Q (F0 m 2965 ls [])) {ls : Array Slot} (hl : lv_has ls 7 [(0, .ref b), (1, .ref h), (2, .ref (a6 0)), (3, .ref ao), (4, .int i)]) : W p l e room_1 s m #[Value.ref b] below meth c H locs cells slots Q (F0 m 2940 ls []) := by
  obtain ⟨hx, hb, hml, hown, hts, hX, hbl, hOK, hz⟩ := hC
  have hK := hOK.1 _ _ _ hz
  have hbA : ¬ (fun q => s.heap.size ≤ q) b := Nat.not_le.mpr hbl
  have hA : ∀ q : Nat, s.heap.size ≤ q → (fun q => s.heap.size ≤ q) q := fun _ h => h
  refine lv_aload_n hx hb dL_law_2940 rfl (lv_at hl 1 rfl) ?_
  refine lw_arg (j := (1 : Int32)) hx hb hX hbl hbA hS hp1 (lv_at hl 0 rfl) (lv_at hl 4 rfl) dL_law_2941 dL_law_2942 dL_law_2944 (by decide) dL_law_2945 dL_law_2946 ?_
  refine cWV (cT k a6 t) wo F (As := [.int p1]) (ci := 1) ⟨hx, hb, hml, hown, hts⟩ hOK hz hS hA hP hD hM (kX1_count hts q736 hrc hrs ⟨(by show rm.frames + 1 ≤ 8192; omega), (by show 8 + (3 + 11) + rm.locals ≤ 104096; omega)⟩) 0 hws rfl rfl hl.1 rfl (lv_room (Nat.le_of_ble_eq_true rfl)) ⟨hcells, hslots⟩ dL_law_2947 (fun r_ w_ H locs hq hP hD hS => ?_)
  obtain ⟨x, hq1, rfl⟩ := hq
  refine lv_aload_n hx hb dL_law_2950 rfl (lv_at hl 2 rfl) ?_
  refine lw_arg (j := (1 : Int32)) hx hb hX hbl hbA hS hp1 (lv_at hl 0 rfl) (lv_at hl 4 rfl) dL_law_2951 dL_law_2952 dL_law_2954 (by decide) dL_law_2955 dL_law_2956 ?_
  refine cWV [] (cT k a6 t) (w_ ++ F) (As := [.int p1]) (ci := 0) ⟨hx, hb, hml, hown, hts⟩ hOK hz hS hA hP hD hM6 (kX6_count hts q2483 rfl rfl ⟨Nat.le_of_ble_eq_true rfl, Nat.le_of_ble_eq_true rfl⟩) 0 rfl rfl rfl hl.1 rfl (lv_room (Nat.le_of_ble_eq_true rfl)) ⟨hcells, hslots⟩ dL_law_2957 (fun r_ w_6 H locs hq hP hD hS => ?_)
  obtain ⟨rfl, rfl⟩ := hq
  have hP : va_P D zCl (cT k a6 t6 ++ (w_ ++ F)) _ := hP
  have hD : va_D (fun q => s.heap.size ≤ q) (cT k a6 t6 ++ (w_ ++ F)) := hD
  have hre := hrel _ _ hq1
  subst hre
  refine lv_icmp_eq (tgt := 2965) hx hb dL_law_2960 (by decide) (fun _ => ?_) (fun c1 => absurd rfl c1)
  exact kk _ _ _ _ hq1 hP hD hS _ hl
theorem zmidP {D : va_G} {cl : List vw_C} {x y z : va_W} {H : Heap} (h : va_P D cl (x ++ (y ++ z)) H) : va_P D cl y H := fun i q hi => h (x.length + i) q (by
  rw [List.getElem?_append_right (Nat.le_add_right _ _), Nat.add_sub_cancel_left, List.getElem?_append_left (List.getElem?_eq_some_iff.mp hi).1]
  exact hi)
set_option maxRecDepth 100000 in
theorem csR_fault {p : Program} {l : Launch} {e : Env} {s : State} {m : MethodId} {below : List Frame} {meth : Method} {c : Code} {Q : State → Prop} {D : va_G} {k : Nat → ClassId} {Z : zZ} {b L : Nat} {xs : Nat → Int32} (hC : lwC p s m c D k Z b L xs) {a6 : Nat → Nat} {h ao : Nat} {i : Int32} (wo F : va_W) {t t6 : Tw} {fs : List Value} (hws : wo[0]? = some (h, .inr (1, fs))) {rm : Room} {r6 : Int32} (hrc : rm.cells = 0) (hrs : rm.slots = 0) (hfr : rm.frames + 1 ≤ 8192 ∧ 8 + (1 + 11) + rm.locals ≤ 104096) (hM : CtR l yX1_fault cX1_fault 1 (some .int) rm Z D zCl wo [.ref h] (some (.int r6))) (hM6 : CtW l yX6_fault cX6_fault 1 (some .int) rX6_fault Z D zCl (cT k a6 t) [.ref (a6 0)] (fun r' w' => r' = some (.int r6) ∧ w' = cT k a6 t6) 0 0) {H : Heap} {locs : List Loc} {cells slots : Nat} (hP : va_P D zCl (cT k a6 t ++ (wo ++ F)) H) (hD : va_D (fun q => s.heap.size ≤ q) (cT k a6 t ++ (wo ++ F))) (hS : va_S (fun q => s.heap.size ≤ q) s.heap H locs) (hcells : cells + 0 ≤ 603072) (hslots : slots + 0 ≤ 7190634) (kk : ∀ H locs, va_P D zCl (cT k a6 t6 ++ (wo ++ F)) H → va_D (fun q => s.heap.size ≤ q) (cT k a6 t6 ++ (wo ++ F)) → va_S (fun q => s.heap.size ≤ q) s.heap H locs → ∀ ls, lv_has ls 7 [(0, .ref b), (1, .ref h), (2, .ref (a6 0)), (3, .ref ao), (4, .int i)] → W p l e room_1 s m #[Value.ref b] below meth c H locs (cells + 0) (slots + 0) Q (F0 m 2965 ls [])) {ls : Array Slot} (hl : lv_has ls 7 [(0, .ref b), (1, .ref h), (2, .ref (a6 0)), (3, .ref ao), (4, .int i)]) : W p l e room_1 s m #[Value.ref b] below meth c H locs cells slots Q (F0 m 474 ls []) := by
  obtain ⟨hx, hb, hml, hown, hts, hX, hbl, hOK, hz⟩ := hC
  have hK := hOK.1 _ _ _ hz
  have hbA : ¬ (fun q => s.heap.size ≤ q) b := Nat.not_le.mpr hbl
  have hA : ∀ q : Nat, s.heap.size ≤ q → (fun q => s.heap.size ≤ q) q := fun _ h => h
  refine lv_aload_n hx hb dL_law_474 rfl (lv_at hl 1 rfl) ?_
  refine cRV (As := []) (ci := 1) ⟨hx, hb, hml, hown, hts⟩ hOK hz hS (zmidP hP) hM (kX1_fault hts q418 hrc hrs hfr) 0 hws rfl rfl hl.1 rfl (lv_room (Nat.le_of_ble_eq_true rfl)) ⟨hcells, hslots⟩ dL_law_475 ?_
  refine lv_aload_n hx hb dL_law_478 rfl (lv_at hl 2 rfl) ?_
  refine cWV [] (cT k a6 t) (wo ++ F) (As := []) (ci := 0) ⟨hx, hb, hml, hown, hts⟩ hOK hz hS hA hP hD hM6 (kX6_fault hts q2124 rfl rfl ⟨Nat.le_of_ble_eq_true rfl, Nat.le_of_ble_eq_true rfl⟩) 0 rfl rfl rfl hl.1 rfl (lv_room (Nat.le_of_ble_eq_true rfl)) ⟨hcells, hslots⟩ dL_law_479 (fun r_ w_6 H locs hq hP hD hS => ?_)
  obtain ⟨rfl, rfl⟩ := hq
  have hP : va_P D zCl (cT k a6 t6 ++ (wo ++ F)) _ := hP
  have hD : va_D (fun q => s.heap.size ≤ q) (cT k a6 t6 ++ (wo ++ F)) := hD
  refine lv_icmp_eq (tgt := 2965) hx hb dL_law_482 (by decide) (fun _ => ?_) (fun c1 => absurd rfl c1)
  exact kk _ _ hP hD hS _ hl
set_option maxRecDepth 100000 in
theorem csR_both {p : Program} {l : Launch} {e : Env} {s : State} {m : MethodId} {below : List Frame} {meth : Method} {c : Code} {Q : State → Prop} {D : va_G} {k : Nat → ClassId} {Z : zZ} {b L : Nat} {xs : Nat → Int32} (hC : lwC p s m c D k Z b L xs) {a6 : Nat → Nat} {h ao : Nat} {i : Int32} (wo F : va_W) {t t6 : Tw} {fs : List Value} (hws : wo[0]? = some (h, .inr (1, fs))) {rm : Room} {r6 : Int32} (hrc : rm.cells = 0) (hrs : rm.slots = 0) (hfr : rm.frames + 1 ≤ 8192 ∧ 8 + (2 + 11) + rm.locals ≤ 104096) (hM : CtR l yX1_both cX1_both 2 (some .int) rm Z D zCl wo [.ref h] (some (.int r6))) (hM6 : CtW l yX6_both cX6_both 2 (some .int) rX6_both Z D zCl (cT k a6 t) [.ref (a6 0)] (fun r' w' => r' = some (.int r6) ∧ w' = cT k a6 t6) 0 0) {H : Heap} {locs : List Loc} {cells slots : Nat} (hP : va_P D zCl (cT k a6 t ++ (wo ++ F)) H) (hD : va_D (fun q => s.heap.size ≤ q) (cT k a6 t ++ (wo ++ F))) (hS : va_S (fun q => s.heap.size ≤ q) s.heap H locs) (hcells : cells + 0 ≤ 603072) (hslots : slots + 0 ≤ 7190634) (kk : ∀ H locs, va_P D zCl (cT k a6 t6 ++ (wo ++ F)) H → va_D (fun q => s.heap.size ≤ q) (cT k a6 t6 ++ (wo ++ F)) → va_S (fun q => s.heap.size ≤ q) s.heap H locs → ∀ ls, lv_has ls 7 [(0, .ref b), (1, .ref h), (2, .ref (a6 0)), (3, .ref ao), (4, .int i)] → W p l e room_1 s m #[Value.ref b] below meth c H locs (cells + 0) (slots + 0) Q (F0 m 2965 ls [])) {ls : Array Slot} (hl : lv_has ls 7 [(0, .ref b), (1, .ref h), (2, .ref (a6 0)), (3, .ref ao), (4, .int i)]) : W p l e room_1 s m #[Value.ref b] below meth c H locs cells slots Q (F0 m 1551 ls []) := by
  obtain ⟨hx, hb, hml, hown, hts, hX, hbl, hOK, hz⟩ := hC
  have hK := hOK.1 _ _ _ hz
  have hbA : ¬ (fun q => s.heap.size ≤ q) b := Nat.not_le.mpr hbl
  have hA : ∀ q : Nat, s.heap.size ≤ q → (fun q => s.heap.size ≤ q) q := fun _ h => h
  refine lv_aload_n hx hb dL_law_1551 rfl (lv_at hl 1 rfl) ?_
  refine cRV (As := []) (ci := 1) ⟨hx, hb, hml, hown, hts⟩ hOK hz hS (zmidP hP) hM (kX1_both hts q422 hrc hrs hfr) 0 hws rfl rfl hl.1 rfl (lv_room (Nat.le_of_ble_eq_true rfl)) ⟨hcells, hslots⟩ dL_law_1552 ?_
  refine lv_aload_n hx hb dL_law_1555 rfl (lv_at hl 2 rfl) ?_
  refine cWV [] (cT k a6 t) (wo ++ F) (As := []) (ci := 0) ⟨hx, hb, hml, hown, hts⟩ hOK hz hS hA hP hD hM6 (kX6_both hts q2280 rfl rfl ⟨Nat.le_of_ble_eq_true rfl, Nat.le_of_ble_eq_true rfl⟩) 0 rfl rfl rfl hl.1 rfl (lv_room (Nat.le_of_ble_eq_true rfl)) ⟨hcells, hslots⟩ dL_law_1556 (fun r_ w_6 H locs hq hP hD hS => ?_)
  obtain ⟨rfl, rfl⟩ := hq
  have hP : va_P D zCl (cT k a6 t6 ++ (wo ++ F)) _ := hP
  have hD : va_D (fun q => s.heap.size ≤ q) (cT k a6 t6 ++ (wo ++ F)) := hD
  refine lv_icmp_eq (tgt := 2965) hx hb dL_law_1559 (by decide) (fun _ => ?_) (fun c1 => absurd rfl c1)
  exact kk _ _ hP hD hS _ hl
set_option maxRecDepth 100000 in
theorem csR_odds {p : Program} {l : Launch} {e : Env} {s : State} {m : MethodId} {below : List Frame} {meth : Method} {c : Code} {Q : State → Prop} {D : va_G} {k : Nat → ClassId} {Z : zZ} {b L : Nat} {xs : Nat → Int32} (hC : lwC p s m c D k Z b L xs) {a6 : Nat → Nat} {h ao : Nat} {i : Int32} (wo F : va_W) {t t6 : Tw} {fs : List Value} (hws : wo[0]? = some (h, .inr (1, fs))) {rm : Room} {r6 : Int32} (hrc : rm.cells = 0) (hrs : rm.slots = 0) (hfr : rm.frames + 1 ≤ 8192 ∧ 8 + (1 + 11) + rm.locals ≤ 104096) (hM : CtR l yX1_odds cX1_odds 1 (some .int) rm Z D zCl wo [.ref h] (some (.int r6))) (hM6 : CtW l yX6_odds cX6_odds 1 (some .int) rX6_odds Z D zCl (cT k a6 t) [.ref (a6 0)] (fun r' w' => r' = some (.int r6) ∧ w' = cT k a6 t6) 0 0) {H : Heap} {locs : List Loc} {cells slots : Nat} (hP : va_P D zCl (cT k a6 t ++ (wo ++ F)) H) (hD : va_D (fun q => s.heap.size ≤ q) (cT k a6 t ++ (wo ++ F))) (hS : va_S (fun q => s.heap.size ≤ q) s.heap H locs) (hcells : cells + 0 ≤ 603072) (hslots : slots + 0 ≤ 7190634) (kk : ∀ H locs, va_P D zCl (cT k a6 t6 ++ (wo ++ F)) H → va_D (fun q => s.heap.size ≤ q) (cT k a6 t6 ++ (wo ++ F)) → va_S (fun q => s.heap.size ≤ q) s.heap H locs → ∀ ls, lv_has ls 7 [(0, .ref b), (1, .ref h), (2, .ref (a6 0)), (3, .ref ao), (4, .int i)] → W p l e room_1 s m #[Value.ref b] below meth c H locs (cells + 0) (slots + 0) Q (F0 m 2965 ls [])) {ls : Array Slot} (hl : lv_has ls 7 [(0, .ref b), (1, .ref h), (2, .ref (a6 0)), (3, .ref ao), (4, .int i)]) : W p l e room_1 s m #[Value.ref b] below meth c H locs cells slots Q (F0 m 1757 ls []) := by
  obtain ⟨hx, hb, hml, hown, hts, hX, hbl, hOK, hz⟩ := hC
  have hK := hOK.1 _ _ _ hz
  have hbA : ¬ (fun q => s.heap.size ≤ q) b := Nat.not_le.mpr hbl
  have hA : ∀ q : Nat, s.heap.size ≤ q → (fun q => s.heap.size ≤ q) q := fun _ h => h
  refine lv_aload_n hx hb dL_law_1757 rfl (lv_at hl 1 rfl) ?_
  refine cRV (As := []) (ci := 1) ⟨hx, hb, hml, hown, hts⟩ hOK hz hS (zmidP hP) hM (kX1_odds hts q563 hrc hrs hfr) 0 hws rfl rfl hl.1 rfl (lv_room (Nat.le_of_ble_eq_true rfl)) ⟨hcells, hslots⟩ dL_law_1758 ?_
  refine lv_aload_n hx hb dL_law_1761 rfl (lv_at hl 2 rfl) ?_
  refine cWV [] (cT k a6 t) (wo ++ F) (As := []) (ci := 0) ⟨hx, hb, hml, hown, hts⟩ hOK hz hS hA hP hD hM6 (kX6_odds hts q2304 rfl rfl ⟨Nat.le_of_ble_eq_true rfl, Nat.le_of_ble_eq_true rfl⟩) 0 rfl rfl rfl hl.1 rfl (lv_room (Nat.le_of_ble_eq_true rfl)) ⟨hcells, hslots⟩ dL_law_1762 (fun r_ w_6 H locs hq hP hD hS => ?_)
  obtain ⟨rfl, rfl⟩ := hq
  have hP : va_P D zCl (cT k a6 t6 ++ (wo ++ F)) _ := hP
  have hD : va_D (fun q => s.heap.size ≤ q) (cT k a6 t6 ++ (wo ++ F)) := hD
  refine lv_icmp_eq (tgt := 2965) hx hb dL_law_1765 (by decide) (fun _ => ?_) (fun c1 => absurd rfl c1)
  exact kk _ _ hP hD hS _ hl
set_option maxRecDepth 100000 in
theorem csR_send {p : Program} {l : Launch} {e : Env} {s : State} {m : MethodId} {below : List Frame} {meth : Method} {c : Code} {Q : State → Prop} {D : va_G} {k : Nat → ClassId} {Z : zZ} {b L : Nat} {xs : Nat → Int32} (hC : lwC p s m c D k Z b L xs) {a6 : Nat → Nat} {h ao : Nat} {i : Int32} (wo F : va_W) {t t6 : Tw} {fs : List Value} (hws : wo[0]? = some (h, .inr (1, fs))) {rm : Room} {r6 : Int32} (hrc : rm.cells = 0) (hrs : rm.slots = 0) (hfr : rm.frames + 1 ≤ 8192 ∧ 8 + (1 + 11) + rm.locals ≤ 104096) (hM : CtR l yX1_send cX1_send 1 (some .int) rm Z D zCl wo [.ref h] (some (.int r6))) (hM6 : CtW l yX6_send cX6_send 1 (some .int) rX6_send Z D zCl (cT k a6 t) [.ref (a6 0)] (fun r' w' => r' = some (.int r6) ∧ w' = cT k a6 t6) 0 0) {H : Heap} {locs : List Loc} {cells slots : Nat} (hP : va_P D zCl (cT k a6 t ++ (wo ++ F)) H) (hD : va_D (fun q => s.heap.size ≤ q) (cT k a6 t ++ (wo ++ F))) (hS : va_S (fun q => s.heap.size ≤ q) s.heap H locs) (hcells : cells + 0 ≤ 603072) (hslots : slots + 0 ≤ 7190634) (kk : ∀ H locs, va_P D zCl (cT k a6 t6 ++ (wo ++ F)) H → va_D (fun q => s.heap.size ≤ q) (cT k a6 t6 ++ (wo ++ F)) → va_S (fun q => s.heap.size ≤ q) s.heap H locs → ∀ ls, lv_has ls 7 [(0, .ref b), (1, .ref h), (2, .ref (a6 0)), (3, .ref ao), (4, .int i)] → W p l e room_1 s m #[Value.ref b] below meth c H locs (cells + 0) (slots + 0) Q (F0 m 2965 ls [])) {ls : Array Slot} (hl : lv_has ls 7 [(0, .ref b), (1, .ref h), (2, .ref (a6 0)), (3, .ref ao), (4, .int i)]) : W p l e room_1 s m #[Value.ref b] below meth c H locs cells slots Q (F0 m 1770 ls []) := by
  obtain ⟨hx, hb, hml, hown, hts, hX, hbl, hOK, hz⟩ := hC
  have hK := hOK.1 _ _ _ hz
  have hbA : ¬ (fun q => s.heap.size ≤ q) b := Nat.not_le.mpr hbl
  have hA : ∀ q : Nat, s.heap.size ≤ q → (fun q => s.heap.size ≤ q) q := fun _ h => h
  refine lv_aload_n hx hb dL_law_1770 rfl (lv_at hl 1 rfl) ?_
  refine cRV (As := []) (ci := 1) ⟨hx, hb, hml, hown, hts⟩ hOK hz hS (zmidP hP) hM (kX1_send hts q593 hrc hrs hfr) 0 hws rfl rfl hl.1 rfl (lv_room (Nat.le_of_ble_eq_true rfl)) ⟨hcells, hslots⟩ dL_law_1771 ?_
  refine lv_aload_n hx hb dL_law_1774 rfl (lv_at hl 2 rfl) ?_
  refine cWV [] (cT k a6 t) (wo ++ F) (As := []) (ci := 0) ⟨hx, hb, hml, hown, hts⟩ hOK hz hS hA hP hD hM6 (kX6_send hts q2314 rfl rfl ⟨Nat.le_of_ble_eq_true rfl, Nat.le_of_ble_eq_true rfl⟩) 0 rfl rfl rfl hl.1 rfl (lv_room (Nat.le_of_ble_eq_true rfl)) ⟨hcells, hslots⟩ dL_law_1775 (fun r_ w_6 H locs hq hP hD hS => ?_)
  obtain ⟨rfl, rfl⟩ := hq
  have hP : va_P D zCl (cT k a6 t6 ++ (wo ++ F)) _ := hP
  have hD : va_D (fun q => s.heap.size ≤ q) (cT k a6 t6 ++ (wo ++ F)) := hD
  refine lv_icmp_eq (tgt := 2965) hx hb dL_law_1778 (by decide) (fun _ => ?_) (fun c1 => absurd rfl c1)
  exact kk _ _ hP hD hS _ hl
set_option maxRecDepth 100000 in
theorem csR_mend {p : Program} {l : Launch} {e : Env} {s : State} {m : MethodId} {below : List Frame} {meth : Method} {c : Code} {Q : State → Prop} {D : va_G} {k : Nat → ClassId} {Z : zZ} {b L : Nat} {xs : Nat → Int32} (hC : lwC p s m c D k Z b L xs) {a6 : Nat → Nat} {h ao : Nat} {i : Int32} (wo F : va_W) {t t6 : Tw} {fs : List Value} (hws : wo[0]? = some (h, .inr (1, fs))) {rm : Room} {r6 : Int32} (hrc : rm.cells = 0) (hrs : rm.slots = 0) (hfr : rm.frames + 1 ≤ 8192 ∧ 8 + (3 + 11) + rm.locals ≤ 104096) (hM : CtR l yX1_mend cX1_mend 3 (some .int) rm Z D zCl wo [.ref h] (some (.int r6))) (hM6 : CtW l yX6_mend cX6_mend 3 (some .int) rX6_mend Z D zCl (cT k a6 t) [.ref (a6 0)] (fun r' w' => r' = some (.int r6) ∧ w' = cT k a6 t6) 0 0) {H : Heap} {locs : List Loc} {cells slots : Nat} (hP : va_P D zCl (cT k a6 t ++ (wo ++ F)) H) (hD : va_D (fun q => s.heap.size ≤ q) (cT k a6 t ++ (wo ++ F))) (hS : va_S (fun q => s.heap.size ≤ q) s.heap H locs) (hcells : cells + 0 ≤ 603072) (hslots : slots + 0 ≤ 7190634) (kk : ∀ H locs, va_P D zCl (cT k a6 t6 ++ (wo ++ F)) H → va_D (fun q => s.heap.size ≤ q) (cT k a6 t6 ++ (wo ++ F)) → va_S (fun q => s.heap.size ≤ q) s.heap H locs → ∀ ls, lv_has ls 7 [(0, .ref b), (1, .ref h), (2, .ref (a6 0)), (3, .ref ao), (4, .int i)] → W p l e room_1 s m #[Value.ref b] below meth c H locs (cells + 0) (slots + 0) Q (F0 m 2965 ls [])) {ls : Array Slot} (hl : lv_has ls 7 [(0, .ref b), (1, .ref h), (2, .ref (a6 0)), (3, .ref ao), (4, .int i)]) : W p l e room_1 s m #[Value.ref b] below meth c H locs cells slots Q (F0 m 1839 ls []) := by
  obtain ⟨hx, hb, hml, hown, hts, hX, hbl, hOK, hz⟩ := hC
  have hK := hOK.1 _ _ _ hz
  have hbA : ¬ (fun q => s.heap.size ≤ q) b := Nat.not_le.mpr hbl
  have hA : ∀ q : Nat, s.heap.size ≤ q → (fun q => s.heap.size ≤ q) q := fun _ h => h
  refine lv_aload_n hx hb dL_law_1839 rfl (lv_at hl 1 rfl) ?_
  refine cRV (As := []) (ci := 1) ⟨hx, hb, hml, hown, hts⟩ hOK hz hS (zmidP hP) hM (kX1_mend hts q597 hrc hrs hfr) 0 hws rfl rfl hl.1 rfl (lv_room (Nat.le_of_ble_eq_true rfl)) ⟨hcells, hslots⟩ dL_law_1840 ?_
  refine lv_aload_n hx hb dL_law_1843 rfl (lv_at hl 2 rfl) ?_
  refine cWV [] (cT k a6 t) (wo ++ F) (As := []) (ci := 0) ⟨hx, hb, hml, hown, hts⟩ hOK hz hS hA hP hD hM6 (kX6_mend hts q2322 rfl rfl ⟨Nat.le_of_ble_eq_true rfl, Nat.le_of_ble_eq_true rfl⟩) 0 rfl rfl rfl hl.1 rfl (lv_room (Nat.le_of_ble_eq_true rfl)) ⟨hcells, hslots⟩ dL_law_1844 (fun r_ w_6 H locs hq hP hD hS => ?_)
  obtain ⟨rfl, rfl⟩ := hq
  have hP : va_P D zCl (cT k a6 t6 ++ (wo ++ F)) _ := hP
  have hD : va_D (fun q => s.heap.size ≤ q) (cT k a6 t6 ++ (wo ++ F)) := hD
  refine lv_icmp_eq (tgt := 2965) hx hb dL_law_1847 (by decide) (fun _ => ?_) (fun c1 => absurd rfl c1)
  exact kk _ _ hP hD hS _ hl
set_option maxRecDepth 100000 in
theorem csR_shut {p : Program} {l : Launch} {e : Env} {s : State} {m : MethodId} {below : List Frame} {meth : Method} {c : Code} {Q : State → Prop} {D : va_G} {k : Nat → ClassId} {Z : zZ} {b L : Nat} {xs : Nat → Int32} (hC : lwC p s m c D k Z b L xs) {a6 : Nat → Nat} {h ao : Nat} {i : Int32} (wo F : va_W) {t t6 : Tw} {fs : List Value} (hws : wo[0]? = some (h, .inr (1, fs))) {rm : Room} {r6 : Int32} (hrc : rm.cells = 0) (hrs : rm.slots = 0) (hfr : rm.frames + 1 ≤ 8192 ∧ 8 + (3 + 11) + rm.locals ≤ 104096) (hM : CtR l yX1_shut cX1_shut 3 (some .int) rm Z D zCl wo [.ref h] (some (.int r6))) (hM6 : CtW l yX6_shut cX6_shut 3 (some .int) rX6_shut Z D zCl (cT k a6 t) [.ref (a6 0)] (fun r' w' => r' = some (.int r6) ∧ w' = cT k a6 t6) 0 0) {H : Heap} {locs : List Loc} {cells slots : Nat} (hP : va_P D zCl (cT k a6 t ++ (wo ++ F)) H) (hD : va_D (fun q => s.heap.size ≤ q) (cT k a6 t ++ (wo ++ F))) (hS : va_S (fun q => s.heap.size ≤ q) s.heap H locs) (hcells : cells + 0 ≤ 603072) (hslots : slots + 0 ≤ 7190634) (kk : ∀ H locs, va_P D zCl (cT k a6 t6 ++ (wo ++ F)) H → va_D (fun q => s.heap.size ≤ q) (cT k a6 t6 ++ (wo ++ F)) → va_S (fun q => s.heap.size ≤ q) s.heap H locs → ∀ ls, lv_has ls 7 [(0, .ref b), (1, .ref h), (2, .ref (a6 0)), (3, .ref ao), (4, .int i)] → W p l e room_1 s m #[Value.ref b] below meth c H locs (cells + 0) (slots + 0) Q (F0 m 2965 ls [])) {ls : Array Slot} (hl : lv_has ls 7 [(0, .ref b), (1, .ref h), (2, .ref (a6 0)), (3, .ref ao), (4, .int i)]) : W p l e room_1 s m #[Value.ref b] below meth c H locs cells slots Q (F0 m 1852 ls []) := by
  obtain ⟨hx, hb, hml, hown, hts, hX, hbl, hOK, hz⟩ := hC
  have hK := hOK.1 _ _ _ hz
  have hbA : ¬ (fun q => s.heap.size ≤ q) b := Nat.not_le.mpr hbl
  have hA : ∀ q : Nat, s.heap.size ≤ q → (fun q => s.heap.size ≤ q) q := fun _ h => h
  refine lv_aload_n hx hb dL_law_1852 rfl (lv_at hl 1 rfl) ?_
  refine cRV (As := []) (ci := 1) ⟨hx, hb, hml, hown, hts⟩ hOK hz hS (zmidP hP) hM (kX1_shut hts q605 hrc hrs hfr) 0 hws rfl rfl hl.1 rfl (lv_room (Nat.le_of_ble_eq_true rfl)) ⟨hcells, hslots⟩ dL_law_1853 ?_
  refine lv_aload_n hx hb dL_law_1856 rfl (lv_at hl 2 rfl) ?_
  refine cWV [] (cT k a6 t) (wo ++ F) (As := []) (ci := 0) ⟨hx, hb, hml, hown, hts⟩ hOK hz hS hA hP hD hM6 (kX6_shut hts q2326 rfl rfl ⟨Nat.le_of_ble_eq_true rfl, Nat.le_of_ble_eq_true rfl⟩) 0 rfl rfl rfl hl.1 rfl (lv_room (Nat.le_of_ble_eq_true rfl)) ⟨hcells, hslots⟩ dL_law_1857 (fun r_ w_6 H locs hq hP hD hS => ?_)
  obtain ⟨rfl, rfl⟩ := hq
  have hP : va_P D zCl (cT k a6 t6 ++ (wo ++ F)) _ := hP
  have hD : va_D (fun q => s.heap.size ≤ q) (cT k a6 t6 ++ (wo ++ F)) := hD
  refine lv_icmp_eq (tgt := 2965) hx hb dL_law_1860 (by decide) (fun _ => ?_) (fun c1 => absurd rfl c1)
  exact kk _ _ hP hD hS _ hl
set_option maxRecDepth 100000 in
theorem csR_quiet {p : Program} {l : Launch} {e : Env} {s : State} {m : MethodId} {below : List Frame} {meth : Method} {c : Code} {Q : State → Prop} {D : va_G} {k : Nat → ClassId} {Z : zZ} {b L : Nat} {xs : Nat → Int32} (hC : lwC p s m c D k Z b L xs) {a6 : Nat → Nat} {h ao : Nat} {i : Int32} (wo F : va_W) {t t6 : Tw} {fs : List Value} (hws : wo[0]? = some (h, .inr (1, fs))) {rm : Room} {r6 : Int32} (hrc : rm.cells = 0) (hrs : rm.slots = 0) (hfr : rm.frames + 1 ≤ 8192 ∧ 8 + (3 + 11) + rm.locals ≤ 104096) (hM : CtR l yX1_quiet cX1_quiet 3 (some .int) rm Z D zCl wo [.ref h] (some (.int r6))) (hM6 : CtW l yX6_quiet cX6_quiet 3 (some .int) rX6_quiet Z D zCl (cT k a6 t) [.ref (a6 0)] (fun r' w' => r' = some (.int r6) ∧ w' = cT k a6 t6) 0 0) {H : Heap} {locs : List Loc} {cells slots : Nat} (hP : va_P D zCl (cT k a6 t ++ (wo ++ F)) H) (hD : va_D (fun q => s.heap.size ≤ q) (cT k a6 t ++ (wo ++ F))) (hS : va_S (fun q => s.heap.size ≤ q) s.heap H locs) (hcells : cells + 0 ≤ 603072) (hslots : slots + 0 ≤ 7190634) (kk : ∀ H locs, va_P D zCl (cT k a6 t6 ++ (wo ++ F)) H → va_D (fun q => s.heap.size ≤ q) (cT k a6 t6 ++ (wo ++ F)) → va_S (fun q => s.heap.size ≤ q) s.heap H locs → ∀ ls, lv_has ls 7 [(0, .ref b), (1, .ref h), (2, .ref (a6 0)), (3, .ref ao), (4, .int i)] → W p l e room_1 s m #[Value.ref b] below meth c H locs (cells + 0) (slots + 0) Q (F0 m 2965 ls [])) {ls : Array Slot} (hl : lv_has ls 7 [(0, .ref b), (1, .ref h), (2, .ref (a6 0)), (3, .ref ao), (4, .int i)]) : W p l e room_1 s m #[Value.ref b] below meth c H locs cells slots Q (F0 m 1865 ls []) := by
  obtain ⟨hx, hb, hml, hown, hts, hX, hbl, hOK, hz⟩ := hC
  have hK := hOK.1 _ _ _ hz
  have hbA : ¬ (fun q => s.heap.size ≤ q) b := Nat.not_le.mpr hbl
  have hA : ∀ q : Nat, s.heap.size ≤ q → (fun q => s.heap.size ≤ q) q := fun _ h => h
  refine lv_aload_n hx hb dL_law_1865 rfl (lv_at hl 1 rfl) ?_
  refine cRV (As := []) (ci := 1) ⟨hx, hb, hml, hown, hts⟩ hOK hz hS (zmidP hP) hM (kX1_quiet hts q613 hrc hrs hfr) 0 hws rfl rfl hl.1 rfl (lv_room (Nat.le_of_ble_eq_true rfl)) ⟨hcells, hslots⟩ dL_law_1866 ?_
  refine lv_aload_n hx hb dL_law_1869 rfl (lv_at hl 2 rfl) ?_
  refine cWV [] (cT k a6 t) (wo ++ F) (As := []) (ci := 0) ⟨hx, hb, hml, hown, hts⟩ hOK hz hS hA hP hD hM6 (kX6_quiet hts q2334 rfl rfl ⟨Nat.le_of_ble_eq_true rfl, Nat.le_of_ble_eq_true rfl⟩) 0 rfl rfl rfl hl.1 rfl (lv_room (Nat.le_of_ble_eq_true rfl)) ⟨hcells, hslots⟩ dL_law_1870 (fun r_ w_6 H locs hq hP hD hS => ?_)
  obtain ⟨rfl, rfl⟩ := hq
  have hP : va_P D zCl (cT k a6 t6 ++ (wo ++ F)) _ := hP
  have hD : va_D (fun q => s.heap.size ≤ q) (cT k a6 t6 ++ (wo ++ F)) := hD
  refine lv_icmp_eq (tgt := 2965) hx hb dL_law_1873 (by decide) (fun _ => ?_) (fun c1 => absurd rfl c1)
  exact kk _ _ hP hD hS _ hl
set_option maxRecDepth 100000 in
theorem csR_best {p : Program} {l : Launch} {e : Env} {s : State} {m : MethodId} {below : List Frame} {meth : Method} {c : Code} {Q : State → Prop} {D : va_G} {k : Nat → ClassId} {Z : zZ} {b L : Nat} {xs : Nat → Int32} (hC : lwC p s m c D k Z b L xs) {a6 : Nat → Nat} {h ao : Nat} {i : Int32} (wo F : va_W) {t t6 : Tw} {fs : List Value} (hws : wo[0]? = some (h, .inr (1, fs))) {rm : Room} {r6 : Int32} (hrc : rm.cells = 0) (hrs : rm.slots = 0) (hfr : rm.frames + 1 ≤ 8192 ∧ 8 + (3 + 11) + rm.locals ≤ 104096) (hM : CtR l yX1_best cX1_best 3 (some .int) rm Z D zCl wo [.ref h] (some (.int r6))) (hM6 : CtW l yX6_best cX6_best 4 (some .int) rX6_best Z D zCl (cT k a6 t) [.ref (a6 0)] (fun r' w' => r' = some (.int r6) ∧ w' = cT k a6 t6) 0 0) {H : Heap} {locs : List Loc} {cells slots : Nat} (hP : va_P D zCl (cT k a6 t ++ (wo ++ F)) H) (hD : va_D (fun q => s.heap.size ≤ q) (cT k a6 t ++ (wo ++ F))) (hS : va_S (fun q => s.heap.size ≤ q) s.heap H locs) (hcells : cells + 0 ≤ 603072) (hslots : slots + 0 ≤ 7190634) (kk : ∀ H locs, va_P D zCl (cT k a6 t6 ++ (wo ++ F)) H → va_D (fun q => s.heap.size ≤ q) (cT k a6 t6 ++ (wo ++ F)) → va_S (fun q => s.heap.size ≤ q) s.heap H locs → ∀ ls, lv_has ls 7 [(0, .ref b), (1, .ref h), (2, .ref (a6 0)), (3, .ref ao), (4, .int i)] → W p l e room_1 s m #[Value.ref b] below meth c H locs (cells + 0) (slots + 0) Q (F0 m 2965 ls [])) {ls : Array Slot} (hl : lv_has ls 7 [(0, .ref b), (1, .ref h), (2, .ref (a6 0)), (3, .ref ao), (4, .int i)]) : W p l e room_1 s m #[Value.ref b] below meth c H locs cells slots Q (F0 m 1878 ls []) := by
  obtain ⟨hx, hb, hml, hown, hts, hX, hbl, hOK, hz⟩ := hC
  have hK := hOK.1 _ _ _ hz
  have hbA : ¬ (fun q => s.heap.size ≤ q) b := Nat.not_le.mpr hbl
  have hA : ∀ q : Nat, s.heap.size ≤ q → (fun q => s.heap.size ≤ q) q := fun _ h => h
  refine lv_aload_n hx hb dL_law_1878 rfl (lv_at hl 1 rfl) ?_
  refine cRV (As := []) (ci := 1) ⟨hx, hb, hml, hown, hts⟩ hOK hz hS (zmidP hP) hM (kX1_best hts q617 hrc hrs hfr) 0 hws rfl rfl hl.1 rfl (lv_room (Nat.le_of_ble_eq_true rfl)) ⟨hcells, hslots⟩ dL_law_1879 ?_
  refine lv_aload_n hx hb dL_law_1882 rfl (lv_at hl 2 rfl) ?_
  refine cWV [] (cT k a6 t) (wo ++ F) (As := []) (ci := 0) ⟨hx, hb, hml, hown, hts⟩ hOK hz hS hA hP hD hM6 (kX6_best hts q2338 rfl rfl ⟨Nat.le_of_ble_eq_true rfl, Nat.le_of_ble_eq_true rfl⟩) 0 rfl rfl rfl hl.1 rfl (lv_room (Nat.le_of_ble_eq_true rfl)) ⟨hcells, hslots⟩ dL_law_1883 (fun r_ w_6 H locs hq hP hD hS => ?_)
  obtain ⟨rfl, rfl⟩ := hq
  have hP : va_P D zCl (cT k a6 t6 ++ (wo ++ F)) _ := hP
  have hD : va_D (fun q => s.heap.size ≤ q) (cT k a6 t6 ++ (wo ++ F)) := hD
  refine lv_icmp_eq (tgt := 2965) hx hb dL_law_1886 (by decide) (fun _ => ?_) (fun c1 => absurd rfl c1)
  exact kk _ _ hP hD hS _ hl
set_option maxRecDepth 100000 in
theorem csR_keenest {p : Program} {l : Launch} {e : Env} {s : State} {m : MethodId} {below : List Frame} {meth : Method} {c : Code} {Q : State → Prop} {D : va_G} {k : Nat → ClassId} {Z : zZ} {b L : Nat} {xs : Nat → Int32} (hC : lwC p s m c D k Z b L xs) {a6 : Nat → Nat} {h ao : Nat} {i : Int32} (wo F : va_W) {t t6 : Tw} {fs : List Value} (hws : wo[0]? = some (h, .inr (1, fs))) {rm : Room} {r6 : Int32} (hrc : rm.cells = 0) (hrs : rm.slots = 0) (hfr : rm.frames + 1 ≤ 8192 ∧ 8 + (3 + 11) + rm.locals ≤ 104096) (hM : CtR l yX1_keenest cX1_keenest 3 (some .int) rm Z D zCl wo [.ref h] (some (.int r6))) (hM6 : CtW l yX6_keenest cX6_keenest 3 (some .int) rX6_keenest Z D zCl (cT k a6 t) [.ref (a6 0)] (fun r' w' => r' = some (.int r6) ∧ w' = cT k a6 t6) 0 0) {H : Heap} {locs : List Loc} {cells slots : Nat} (hP : va_P D zCl (cT k a6 t ++ (wo ++ F)) H) (hD : va_D (fun q => s.heap.size ≤ q) (cT k a6 t ++ (wo ++ F))) (hS : va_S (fun q => s.heap.size ≤ q) s.heap H locs) (hcells : cells + 0 ≤ 603072) (hslots : slots + 0 ≤ 7190634) (kk : ∀ H locs, va_P D zCl (cT k a6 t6 ++ (wo ++ F)) H → va_D (fun q => s.heap.size ≤ q) (cT k a6 t6 ++ (wo ++ F)) → va_S (fun q => s.heap.size ≤ q) s.heap H locs → ∀ ls, lv_has ls 7 [(0, .ref b), (1, .ref h), (2, .ref (a6 0)), (3, .ref ao), (4, .int i)] → W p l e room_1 s m #[Value.ref b] below meth c H locs (cells + 0) (slots + 0) Q (F0 m 2965 ls [])) {ls : Array Slot} (hl : lv_has ls 7 [(0, .ref b), (1, .ref h), (2, .ref (a6 0)), (3, .ref ao), (4, .int i)]) : W p l e room_1 s m #[Value.ref b] below meth c H locs cells slots Q (F0 m 2176 ls []) := by
  obtain ⟨hx, hb, hml, hown, hts, hX, hbl, hOK, hz⟩ := hC
  have hK := hOK.1 _ _ _ hz
  have hbA : ¬ (fun q => s.heap.size ≤ q) b := Nat.not_le.mpr hbl
  have hA : ∀ q : Nat, s.heap.size ≤ q → (fun q => s.heap.size ≤ q) q := fun _ h => h
  refine lv_aload_n hx hb dL_law_2176 rfl (lv_at hl 1 rfl) ?_
  refine cRV (As := []) (ci := 1) ⟨hx, hb, hml, hown, hts⟩ hOK hz hS (zmidP hP) hM (kX1_keenest hts q682 hrc hrs hfr) 0 hws rfl rfl hl.1 rfl (lv_room (Nat.le_of_ble_eq_true rfl)) ⟨hcells, hslots⟩ dL_law_2177 ?_
  refine lv_aload_n hx hb dL_law_2180 rfl (lv_at hl 2 rfl) ?_
  refine cWV [] (cT k a6 t) (wo ++ F) (As := []) (ci := 0) ⟨hx, hb, hml, hown, hts⟩ hOK hz hS hA hP hD hM6 (kX6_keenest hts q2395 rfl rfl ⟨Nat.le_of_ble_eq_true rfl, Nat.le_of_ble_eq_true rfl⟩) 0 rfl rfl rfl hl.1 rfl (lv_room (Nat.le_of_ble_eq_true rfl)) ⟨hcells, hslots⟩ dL_law_2181 (fun r_ w_6 H locs hq hP hD hS => ?_)
  obtain ⟨rfl, rfl⟩ := hq
  have hP : va_P D zCl (cT k a6 t6 ++ (wo ++ F)) _ := hP
  have hD : va_D (fun q => s.heap.size ≤ q) (cT k a6 t6 ++ (wo ++ F)) := hD
  refine lv_icmp_eq (tgt := 2965) hx hb dL_law_2184 (by decide) (fun _ => ?_) (fun c1 => absurd rfl c1)
  exact kk _ _ hP hD hS _ hl
set_option maxRecDepth 100000 in
theorem csR_alike {p : Program} {l : Launch} {e : Env} {s : State} {m : MethodId} {below : List Frame} {meth : Method} {c : Code} {Q : State → Prop} {D : va_G} {k : Nat → ClassId} {Z : zZ} {b L : Nat} {xs : Nat → Int32} (hC : lwC p s m c D k Z b L xs) {a6 : Nat → Nat} {h ao : Nat} {i : Int32} (wo F : va_W) {t t6 : Tw} {fs : List Value} (hws : wo[0]? = some (h, .inr (1, fs))) {rm : Room} {r6 : Int32} (hrc : rm.cells = 0) (hrs : rm.slots = 0) (hfr : rm.frames + 1 ≤ 8192 ∧ 8 + (4 + 11) + rm.locals ≤ 104096) (hM : CtR l yX1_alike cX1_alike 4 (some .int) rm Z D zCl wo [.ref h] (some (.int r6))) (hM6 : CtW l yX6_alike cX6_alike 4 (some .int) rX6_alike Z D zCl (cT k a6 t) [.ref (a6 0)] (fun r' w' => r' = some (.int r6) ∧ w' = cT k a6 t6) 0 0) {H : Heap} {locs : List Loc} {cells slots : Nat} (hP : va_P D zCl (cT k a6 t ++ (wo ++ F)) H) (hD : va_D (fun q => s.heap.size ≤ q) (cT k a6 t ++ (wo ++ F))) (hS : va_S (fun q => s.heap.size ≤ q) s.heap H locs) (hcells : cells + 0 ≤ 603072) (hslots : slots + 0 ≤ 7190634) (kk : ∀ H locs, va_P D zCl (cT k a6 t6 ++ (wo ++ F)) H → va_D (fun q => s.heap.size ≤ q) (cT k a6 t6 ++ (wo ++ F)) → va_S (fun q => s.heap.size ≤ q) s.heap H locs → ∀ ls, lv_has ls 7 [(0, .ref b), (1, .ref h), (2, .ref (a6 0)), (3, .ref ao), (4, .int i)] → W p l e room_1 s m #[Value.ref b] below meth c H locs (cells + 0) (slots + 0) Q (F0 m 2965 ls [])) {ls : Array Slot} (hl : lv_has ls 7 [(0, .ref b), (1, .ref h), (2, .ref (a6 0)), (3, .ref ao), (4, .int i)]) : W p l e room_1 s m #[Value.ref b] below meth c H locs cells slots Q (F0 m 2189 ls []) := by
  obtain ⟨hx, hb, hml, hown, hts, hX, hbl, hOK, hz⟩ := hC
  have hK := hOK.1 _ _ _ hz
  have hbA : ¬ (fun q => s.heap.size ≤ q) b := Nat.not_le.mpr hbl
  have hA : ∀ q : Nat, s.heap.size ≤ q → (fun q => s.heap.size ≤ q) q := fun _ h => h
  refine lv_aload_n hx hb dL_law_2189 rfl (lv_at hl 1 rfl) ?_
  refine cRV (As := []) (ci := 1) ⟨hx, hb, hml, hown, hts⟩ hOK hz hS (zmidP hP) hM (kX1_alike hts q686 hrc hrs hfr) 0 hws rfl rfl hl.1 rfl (lv_room (Nat.le_of_ble_eq_true rfl)) ⟨hcells, hslots⟩ dL_law_2190 ?_
  refine lv_aload_n hx hb dL_law_2193 rfl (lv_at hl 2 rfl) ?_
  refine cWV [] (cT k a6 t) (wo ++ F) (As := []) (ci := 0) ⟨hx, hb, hml, hown, hts⟩ hOK hz hS hA hP hD hM6 (kX6_alike hts q2399 rfl rfl ⟨Nat.le_of_ble_eq_true rfl, Nat.le_of_ble_eq_true rfl⟩) 0 rfl rfl rfl hl.1 rfl (lv_room (Nat.le_of_ble_eq_true rfl)) ⟨hcells, hslots⟩ dL_law_2194 (fun r_ w_6 H locs hq hP hD hS => ?_)
  obtain ⟨rfl, rfl⟩ := hq
  have hP : va_P D zCl (cT k a6 t6 ++ (wo ++ F)) _ := hP
  have hD : va_D (fun q => s.heap.size ≤ q) (cT k a6 t6 ++ (wo ++ F)) := hD
  refine lv_icmp_eq (tgt := 2965) hx hb dL_law_2197 (by decide) (fun _ => ?_) (fun c1 => absurd rfl c1)
  exact kk _ _ hP hD hS _ hl
set_option maxRecDepth 100000 in
theorem csR_well {p : Program} {l : Launch} {e : Env} {s : State} {m : MethodId} {below : List Frame} {meth : Method} {c : Code} {Q : State → Prop} {D : va_G} {k : Nat → ClassId} {Z : zZ} {b L : Nat} {xs : Nat → Int32} (hC : lwC p s m c D k Z b L xs) {a6 : Nat → Nat} {h ao : Nat} {i : Int32} (wo F : va_W) {t t6 : Tw} {fs : List Value} (hws : wo[0]? = some (h, .inr (1, fs))) {rm : Room} {r6 : Int32} (hrc : rm.cells = 0) (hrs : rm.slots = 0) (hfr : rm.frames + 1 ≤ 8192 ∧ 8 + (5 + 11) + rm.locals ≤ 104096) (hM : CtR l yX1_well cX1_well 5 (some .int) rm Z D zCl wo [.ref h] (some (.int r6))) (hM6 : CtW l yX6_well cX6_well 4 (some .int) rX6_well Z D zCl (cT k a6 t) [.ref (a6 0)] (fun r' w' => r' = some (.int r6) ∧ w' = cT k a6 t6) 0 0) {H : Heap} {locs : List Loc} {cells slots : Nat} (hP : va_P D zCl (cT k a6 t ++ (wo ++ F)) H) (hD : va_D (fun q => s.heap.size ≤ q) (cT k a6 t ++ (wo ++ F))) (hS : va_S (fun q => s.heap.size ≤ q) s.heap H locs) (hcells : cells + 0 ≤ 603072) (hslots : slots + 0 ≤ 7190634) (kk : ∀ H locs, va_P D zCl (cT k a6 t6 ++ (wo ++ F)) H → va_D (fun q => s.heap.size ≤ q) (cT k a6 t6 ++ (wo ++ F)) → va_S (fun q => s.heap.size ≤ q) s.heap H locs → ∀ ls, lv_has ls 7 [(0, .ref b), (1, .ref h), (2, .ref (a6 0)), (3, .ref ao), (4, .int i)] → W p l e room_1 s m #[Value.ref b] below meth c H locs (cells + 0) (slots + 0) Q (F0 m 2965 ls [])) {ls : Array Slot} (hl : lv_has ls 7 [(0, .ref b), (1, .ref h), (2, .ref (a6 0)), (3, .ref ao), (4, .int i)]) : W p l e room_1 s m #[Value.ref b] below meth c H locs cells slots Q (F0 m 2270 ls []) := by
  obtain ⟨hx, hb, hml, hown, hts, hX, hbl, hOK, hz⟩ := hC
  have hK := hOK.1 _ _ _ hz
  have hbA : ¬ (fun q => s.heap.size ≤ q) b := Nat.not_le.mpr hbl
  have hA : ∀ q : Nat, s.heap.size ≤ q → (fun q => s.heap.size ≤ q) q := fun _ h => h
  refine lv_aload_n hx hb dL_law_2270 rfl (lv_at hl 1 rfl) ?_
  refine cRV (As := []) (ci := 1) ⟨hx, hb, hml, hown, hts⟩ hOK hz hS (zmidP hP) hM (kX1_well hts q690 hrc hrs hfr) 0 hws rfl rfl hl.1 rfl (lv_room (Nat.le_of_ble_eq_true rfl)) ⟨hcells, hslots⟩ dL_law_2271 ?_
  refine lv_aload_n hx hb dL_law_2274 rfl (lv_at hl 2 rfl) ?_
  refine cWV [] (cT k a6 t) (wo ++ F) (As := []) (ci := 0) ⟨hx, hb, hml, hown, hts⟩ hOK hz hS hA hP hD hM6 (kX6_well hts q2407 rfl rfl ⟨Nat.le_of_ble_eq_true rfl, Nat.le_of_ble_eq_true rfl⟩) 0 rfl rfl rfl hl.1 rfl (lv_room (Nat.le_of_ble_eq_true rfl)) ⟨hcells, hslots⟩ dL_law_2275 (fun r_ w_6 H locs hq hP hD hS => ?_)
  obtain ⟨rfl, rfl⟩ := hq
  have hP : va_P D zCl (cT k a6 t6 ++ (wo ++ F)) _ := hP
  have hD : va_D (fun q => s.heap.size ≤ q) (cT k a6 t6 ++ (wo ++ F)) := hD
  refine lv_icmp_eq (tgt := 2965) hx hb dL_law_2278 (by decide) (fun _ => ?_) (fun c1 => absurd rfl c1)
  exact kk _ _ hP hD hS _ hl
set_option maxRecDepth 100000 in
theorem csR_crowd {p : Program} {l : Launch} {e : Env} {s : State} {m : MethodId} {below : List Frame} {meth : Method} {c : Code} {Q : State → Prop} {D : va_G} {k : Nat → ClassId} {Z : zZ} {b L : Nat} {xs : Nat → Int32} (hC : lwC p s m c D k Z b L xs) {a6 : Nat → Nat} {h ao : Nat} {i : Int32} (wo F : va_W) {t t6 : Tw} {fs : List Value} (hws : wo[0]? = some (h, .inr (1, fs))) {rm : Room} {r6 : Int32} (hrc : rm.cells = 0) (hrs : rm.slots = 0) (hfr : rm.frames + 1 ≤ 8192 ∧ 8 + (5 + 11) + rm.locals ≤ 104096) (hM : CtR l yX1_crowd cX1_crowd 5 (some .int) rm Z D zCl wo [.ref h] (some (.int r6))) (hM6 : CtW l yX6_crowd cX6_crowd 4 (some .int) rX6_crowd Z D zCl (cT k a6 t) [.ref (a6 0)] (fun r' w' => r' = some (.int r6) ∧ w' = cT k a6 t6) 0 0) {H : Heap} {locs : List Loc} {cells slots : Nat} (hP : va_P D zCl (cT k a6 t ++ (wo ++ F)) H) (hD : va_D (fun q => s.heap.size ≤ q) (cT k a6 t ++ (wo ++ F))) (hS : va_S (fun q => s.heap.size ≤ q) s.heap H locs) (hcells : cells + 0 ≤ 603072) (hslots : slots + 0 ≤ 7190634) (kk : ∀ H locs, va_P D zCl (cT k a6 t6 ++ (wo ++ F)) H → va_D (fun q => s.heap.size ≤ q) (cT k a6 t6 ++ (wo ++ F)) → va_S (fun q => s.heap.size ≤ q) s.heap H locs → ∀ ls, lv_has ls 7 [(0, .ref b), (1, .ref h), (2, .ref (a6 0)), (3, .ref ao), (4, .int i)] → W p l e room_1 s m #[Value.ref b] below meth c H locs (cells + 0) (slots + 0) Q (F0 m 2965 ls [])) {ls : Array Slot} (hl : lv_has ls 7 [(0, .ref b), (1, .ref h), (2, .ref (a6 0)), (3, .ref ao), (4, .int i)]) : W p l e room_1 s m #[Value.ref b] below meth c H locs cells slots Q (F0 m 2351 ls []) := by
  obtain ⟨hx, hb, hml, hown, hts, hX, hbl, hOK, hz⟩ := hC
  have hK := hOK.1 _ _ _ hz
  have hbA : ¬ (fun q => s.heap.size ≤ q) b := Nat.not_le.mpr hbl
  have hA : ∀ q : Nat, s.heap.size ≤ q → (fun q => s.heap.size ≤ q) q := fun _ h => h
  refine lv_aload_n hx hb dL_law_2351 rfl (lv_at hl 1 rfl) ?_
  refine cRV (As := []) (ci := 1) ⟨hx, hb, hml, hown, hts⟩ hOK hz hS (zmidP hP) hM (kX1_crowd hts q698 hrc hrs hfr) 0 hws rfl rfl hl.1 rfl (lv_room (Nat.le_of_ble_eq_true rfl)) ⟨hcells, hslots⟩ dL_law_2352 ?_
  refine lv_aload_n hx hb dL_law_2355 rfl (lv_at hl 2 rfl) ?_
  refine cWV [] (cT k a6 t) (wo ++ F) (As := []) (ci := 0) ⟨hx, hb, hml, hown, hts⟩ hOK hz hS hA hP hD hM6 (kX6_crowd hts q2419 rfl rfl ⟨Nat.le_of_ble_eq_true rfl, Nat.le_of_ble_eq_true rfl⟩) 0 rfl rfl rfl hl.1 rfl (lv_room (Nat.le_of_ble_eq_true rfl)) ⟨hcells, hslots⟩ dL_law_2356 (fun r_ w_6 H locs hq hP hD hS => ?_)
  obtain ⟨rfl, rfl⟩ := hq
  have hP : va_P D zCl (cT k a6 t6 ++ (wo ++ F)) _ := hP
  have hD : va_D (fun q => s.heap.size ≤ q) (cT k a6 t6 ++ (wo ++ F)) := hD
  refine lv_icmp_eq (tgt := 2965) hx hb dL_law_2359 (by decide) (fun _ => ?_) (fun c1 => absurd rfl c1)
  exact kk _ _ hP hD hS _ hl
set_option maxRecDepth 100000 in
theorem csR_locked {p : Program} {l : Launch} {e : Env} {s : State} {m : MethodId} {below : List Frame} {meth : Method} {c : Code} {Q : State → Prop} {D : va_G} {k : Nat → ClassId} {Z : zZ} {b L : Nat} {xs : Nat → Int32} (hC : lwC p s m c D k Z b L xs) {a6 : Nat → Nat} {h ao : Nat} {i : Int32} (wo F : va_W) {t t6 : Tw} {fs : List Value} (hws : wo[0]? = some (h, .inr (1, fs))) {rm : Room} {r6 : Int32} (hrc : rm.cells = 0) (hrs : rm.slots = 0) (hfr : rm.frames + 1 ≤ 8192 ∧ 8 + (3 + 11) + rm.locals ≤ 104096) (hM : CtR l yX1_locked cX1_locked 3 (some .int) rm Z D zCl wo [.ref h] (some (.int r6))) (hM6 : CtW l yX6_locked cX6_locked 3 (some .int) rX6_locked Z D zCl (cT k a6 t) [.ref (a6 0)] (fun r' w' => r' = some (.int r6) ∧ w' = cT k a6 t6) 0 0) {H : Heap} {locs : List Loc} {cells slots : Nat} (hP : va_P D zCl (cT k a6 t ++ (wo ++ F)) H) (hD : va_D (fun q => s.heap.size ≤ q) (cT k a6 t ++ (wo ++ F))) (hS : va_S (fun q => s.heap.size ≤ q) s.heap H locs) (hcells : cells + 0 ≤ 603072) (hslots : slots + 0 ≤ 7190634) (kk : ∀ H locs, va_P D zCl (cT k a6 t6 ++ (wo ++ F)) H → va_D (fun q => s.heap.size ≤ q) (cT k a6 t6 ++ (wo ++ F)) → va_S (fun q => s.heap.size ≤ q) s.heap H locs → ∀ ls, lv_has ls 7 [(0, .ref b), (1, .ref h), (2, .ref (a6 0)), (3, .ref ao), (4, .int i)] → W p l e room_1 s m #[Value.ref b] below meth c H locs (cells + 0) (slots + 0) Q (F0 m 2965 ls [])) {ls : Array Slot} (hl : lv_has ls 7 [(0, .ref b), (1, .ref h), (2, .ref (a6 0)), (3, .ref ao), (4, .int i)]) : W p l e room_1 s m #[Value.ref b] below meth c H locs cells slots Q (F0 m 2364 ls []) := by
  obtain ⟨hx, hb, hml, hown, hts, hX, hbl, hOK, hz⟩ := hC
  have hK := hOK.1 _ _ _ hz
  have hbA : ¬ (fun q => s.heap.size ≤ q) b := Nat.not_le.mpr hbl
  have hA : ∀ q : Nat, s.heap.size ≤ q → (fun q => s.heap.size ≤ q) q := fun _ h => h
  refine lv_aload_n hx hb dL_law_2364 rfl (lv_at hl 1 rfl) ?_
  refine cRV (As := []) (ci := 1) ⟨hx, hb, hml, hown, hts⟩ hOK hz hS (zmidP hP) hM (kX1_locked hts q629 hrc hrs hfr) 0 hws rfl rfl hl.1 rfl (lv_room (Nat.le_of_ble_eq_true rfl)) ⟨hcells, hslots⟩ dL_law_2365 ?_
  refine lv_aload_n hx hb dL_law_2368 rfl (lv_at hl 2 rfl) ?_
  refine cWV [] (cT k a6 t) (wo ++ F) (As := []) (ci := 0) ⟨hx, hb, hml, hown, hts⟩ hOK hz hS hA hP hD hM6 (kX6_locked hts q2423 rfl rfl ⟨Nat.le_of_ble_eq_true rfl, Nat.le_of_ble_eq_true rfl⟩) 0 rfl rfl rfl hl.1 rfl (lv_room (Nat.le_of_ble_eq_true rfl)) ⟨hcells, hslots⟩ dL_law_2369 (fun r_ w_6 H locs hq hP hD hS => ?_)
  obtain ⟨rfl, rfl⟩ := hq
  have hP : va_P D zCl (cT k a6 t6 ++ (wo ++ F)) _ := hP
  have hD : va_D (fun q => s.heap.size ≤ q) (cT k a6 t6 ++ (wo ++ F)) := hD
  refine lv_icmp_eq (tgt := 2965) hx hb dL_law_2372 (by decide) (fun _ => ?_) (fun c1 => absurd rfl c1)
  exact kk _ _ hP hD hS _ hl
set_option maxRecDepth 100000 in
theorem csR_mutual {p : Program} {l : Launch} {e : Env} {s : State} {m : MethodId} {below : List Frame} {meth : Method} {c : Code} {Q : State → Prop} {D : va_G} {k : Nat → ClassId} {Z : zZ} {b L : Nat} {xs : Nat → Int32} (hC : lwC p s m c D k Z b L xs) {a6 : Nat → Nat} {h ao : Nat} {i : Int32} (wo F : va_W) {t t6 : Tw} {fs : List Value} (hws : wo[0]? = some (h, .inr (1, fs))) {rm : Room} {r6 : Int32} (hrc : rm.cells = 0) (hrs : rm.slots = 0) (hfr : rm.frames + 1 ≤ 8192 ∧ 8 + (4 + 11) + rm.locals ≤ 104096) (hM : CtR l yX1_mutual cX1_mutual 4 (some .int) rm Z D zCl wo [.ref h] (some (.int r6))) (hM6 : CtW l yX6_mutual cX6_mutual 4 (some .int) rX6_mutual Z D zCl (cT k a6 t) [.ref (a6 0)] (fun r' w' => r' = some (.int r6) ∧ w' = cT k a6 t6) 0 0) {H : Heap} {locs : List Loc} {cells slots : Nat} (hP : va_P D zCl (cT k a6 t ++ (wo ++ F)) H) (hD : va_D (fun q => s.heap.size ≤ q) (cT k a6 t ++ (wo ++ F))) (hS : va_S (fun q => s.heap.size ≤ q) s.heap H locs) (hcells : cells + 0 ≤ 603072) (hslots : slots + 0 ≤ 7190634) (kk : ∀ H locs, va_P D zCl (cT k a6 t6 ++ (wo ++ F)) H → va_D (fun q => s.heap.size ≤ q) (cT k a6 t6 ++ (wo ++ F)) → va_S (fun q => s.heap.size ≤ q) s.heap H locs → ∀ ls, lv_has ls 7 [(0, .ref b), (1, .ref h), (2, .ref (a6 0)), (3, .ref ao), (4, .int i)] → W p l e room_1 s m #[Value.ref b] below meth c H locs (cells + 0) (slots + 0) Q (F0 m 2965 ls [])) {ls : Array Slot} (hl : lv_has ls 7 [(0, .ref b), (1, .ref h), (2, .ref (a6 0)), (3, .ref ao), (4, .int i)]) : W p l e room_1 s m #[Value.ref b] below meth c H locs cells slots Q (F0 m 2545 ls []) := by
  obtain ⟨hx, hb, hml, hown, hts, hX, hbl, hOK, hz⟩ := hC
  have hK := hOK.1 _ _ _ hz
  have hbA : ¬ (fun q => s.heap.size ≤ q) b := Nat.not_le.mpr hbl
  have hA : ∀ q : Nat, s.heap.size ≤ q → (fun q => s.heap.size ≤ q) q := fun _ h => h
  refine lv_aload_n hx hb dL_law_2545 rfl (lv_at hl 1 rfl) ?_
  refine cRV (As := []) (ci := 1) ⟨hx, hb, hml, hown, hts⟩ hOK hz hS (zmidP hP) hM (kX1_mutual hts q635 hrc hrs hfr) 0 hws rfl rfl hl.1 rfl (lv_room (Nat.le_of_ble_eq_true rfl)) ⟨hcells, hslots⟩ dL_law_2546 ?_
  refine lv_aload_n hx hb dL_law_2549 rfl (lv_at hl 2 rfl) ?_
  refine cWV [] (cT k a6 t) (wo ++ F) (As := []) (ci := 0) ⟨hx, hb, hml, hown, hts⟩ hOK hz hS hA hP hD hM6 (kX6_mutual hts q2439 rfl rfl ⟨Nat.le_of_ble_eq_true rfl, Nat.le_of_ble_eq_true rfl⟩) 0 rfl rfl rfl hl.1 rfl (lv_room (Nat.le_of_ble_eq_true rfl)) ⟨hcells, hslots⟩ dL_law_2550 (fun r_ w_6 H locs hq hP hD hS => ?_)
  obtain ⟨rfl, rfl⟩ := hq
  have hP : va_P D zCl (cT k a6 t6 ++ (wo ++ F)) _ := hP
  have hD : va_D (fun q => s.heap.size ≤ q) (cT k a6 t6 ++ (wo ++ F)) := hD
  refine lv_icmp_eq (tgt := 2965) hx hb dL_law_2553 (by decide) (fun _ => ?_) (fun c1 => absurd rfl c1)
  exact kk _ _ hP hD hS _ hl
set_option maxRecDepth 100000 in
theorem csR_count {p : Program} {l : Launch} {e : Env} {s : State} {m : MethodId} {below : List Frame} {meth : Method} {c : Code} {Q : State → Prop} {D : va_G} {k : Nat → ClassId} {Z : zZ} {b L : Nat} {xs : Nat → Int32} (hC : lwC p s m c D k Z b L xs) {a6 : Nat → Nat} {h ao : Nat} {i : Int32} (wo F : va_W) {t t6 : Tw} {p1 : Int32} (hp1 : sAt xs L i 1 p1) {fs : List Value} (hws : wo[0]? = some (h, .inr (1, fs))) {rm : Room} {r6 : Int32} (hrc : rm.cells = 0) (hrs : rm.slots = 0) (hfr : rm.frames + 1 ≤ 8192 ∧ 8 + (3 + 11) + rm.locals ≤ 104096) (hM : CtR l yX1_count cX1_count 3 (some .int) rm Z D zCl wo [.ref h, .int p1] (some (.int r6))) (hM6 : CtW l yX6_count cX6_count 2 (some .int) rX6_count Z D zCl (cT k a6 t) [.ref (a6 0), .int p1] (fun r' w' => r' = some (.int r6) ∧ w' = cT k a6 t6) 0 0) {H : Heap} {locs : List Loc} {cells slots : Nat} (hP : va_P D zCl (cT k a6 t ++ (wo ++ F)) H) (hD : va_D (fun q => s.heap.size ≤ q) (cT k a6 t ++ (wo ++ F))) (hS : va_S (fun q => s.heap.size ≤ q) s.heap H locs) (hcells : cells + 0 ≤ 603072) (hslots : slots + 0 ≤ 7190634) (kk : ∀ H locs, va_P D zCl (cT k a6 t6 ++ (wo ++ F)) H → va_D (fun q => s.heap.size ≤ q) (cT k a6 t6 ++ (wo ++ F)) → va_S (fun q => s.heap.size ≤ q) s.heap H locs → ∀ ls, lv_has ls 7 [(0, .ref b), (1, .ref h), (2, .ref (a6 0)), (3, .ref ao), (4, .int i)] → W p l e room_1 s m #[Value.ref b] below meth c H locs (cells + 0) (slots + 0) Q (F0 m 2965 ls [])) {ls : Array Slot} (hl : lv_has ls 7 [(0, .ref b), (1, .ref h), (2, .ref (a6 0)), (3, .ref ao), (4, .int i)]) : W p l e room_1 s m #[Value.ref b] below meth c H locs cells slots Q (F0 m 2940 ls []) := by
  obtain ⟨hx, hb, hml, hown, hts, hX, hbl, hOK, hz⟩ := hC
  have hK := hOK.1 _ _ _ hz
  have hbA : ¬ (fun q => s.heap.size ≤ q) b := Nat.not_le.mpr hbl
  have hA : ∀ q : Nat, s.heap.size ≤ q → (fun q => s.heap.size ≤ q) q := fun _ h => h
  refine lv_aload_n hx hb dL_law_2940 rfl (lv_at hl 1 rfl) ?_
  refine lw_arg (j := (1 : Int32)) hx hb hX hbl hbA hS hp1 (lv_at hl 0 rfl) (lv_at hl 4 rfl) dL_law_2941 dL_law_2942 dL_law_2944 (by decide) dL_law_2945 dL_law_2946 ?_
  refine cRV (As := [.int p1]) (ci := 1) ⟨hx, hb, hml, hown, hts⟩ hOK hz hS (zmidP hP) hM (kX1_count hts q736 hrc hrs hfr) 0 hws rfl rfl hl.1 rfl (lv_room (Nat.le_of_ble_eq_true rfl)) ⟨hcells, hslots⟩ dL_law_2947 ?_
  refine lv_aload_n hx hb dL_law_2950 rfl (lv_at hl 2 rfl) ?_
  refine lw_arg (j := (1 : Int32)) hx hb hX hbl hbA hS hp1 (lv_at hl 0 rfl) (lv_at hl 4 rfl) dL_law_2951 dL_law_2952 dL_law_2954 (by decide) dL_law_2955 dL_law_2956 ?_
  refine cWV [] (cT k a6 t) (wo ++ F) (As := [.int p1]) (ci := 0) ⟨hx, hb, hml, hown, hts⟩ hOK hz hS hA hP hD hM6 (kX6_count hts q2483 rfl rfl ⟨Nat.le_of_ble_eq_true rfl, Nat.le_of_ble_eq_true rfl⟩) 0 rfl rfl rfl hl.1 rfl (lv_room (Nat.le_of_ble_eq_true rfl)) ⟨hcells, hslots⟩ dL_law_2957 (fun r_ w_6 H locs hq hP hD hS => ?_)
  obtain ⟨rfl, rfl⟩ := hq
  have hP : va_P D zCl (cT k a6 t6 ++ (wo ++ F)) _ := hP
  have hD : va_D (fun q => s.heap.size ≤ q) (cT k a6 t6 ++ (wo ++ F)) := hD
  refine lv_icmp_eq (tgt := 2965) hx hb dL_law_2960 (by decide) (fun _ => ?_) (fun c1 => absurd rfl c1)
  exact kk _ _ hP hD hS _ hl
