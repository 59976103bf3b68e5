/-! THE LAW's LOOP -/
theorem and63 (x : Int32) : ∃ n, n < 64 ∧ x &&& 63 = nI n := by
  refine ⟨(x &&& 63).toBitVec.toNat, ?_, ?_⟩
  · rw [Int32.toBitVec_and, BitVec.toNat_and]
    exact Nat.lt_of_le_of_lt Nat.and_le_right (by decide)
  · apply Int32.toBitVec_inj.mp
    show _ = BitVec.ofNat 32 _
    rw [BitVec.ofNat_toNat, BitVec.setWidth_eq]
theorem lw_more {L a : Nat} (hL : L ≤ 384) (ha : a < 2 ^ 20) (h : ¬ nI a > Int32.ofNat L - 6) : a + 6 ≤ L := by
  by_cases h6 : 6 ≤ L
  · have e : Int32.ofNat L - 6 = nI (L - 6) := by
      have e1 : nI (L - 6) + nI 6 = nI L := by rw [nI_add, Nat.sub_add_cancel h6]
      show nI L - nI 6 = _
      rw [← e1, Int32.add_sub_cancel]
    rw [e] at h
    have h2 : ¬ L - 6 < a := fun h3 => h (nI_lt h3 (by omega))
    omega
  · refine absurd ?_ h
    have hn : ∀ q : Nat, q < 6 → Int32.ofNat q - 6 < 0 := by decide +kernel
    have h0 := hn L (by omega)
    have h1 : (0 : Int32) ≤ nI a := nI_le (Nat.zero_le a) (by omega)
    exact Int32.lt_of_lt_of_le h0 h1
def lwStep (p : Program) (l : Launch) (e : Env) (s : State) (m : MethodId) (below : List Frame) (meth : Method) (c : Code) (Q : State → Prop) (D : va_G) (k : Nat → ClassId) (b L : Nat) (xs : Nat → Int32) (a6 ah aw adr aim ard asc ath awl alo atr : Nat → Nat) (ao : Nat) (I : Nat → Nat → Nat → Tw → Kp → Wd → Wd → Wd → Rd → Sc → Wd → va_W → Lo → Wd → va_W → Prop) (pc : Nat) : Prop := ∀ (j : Nat) (i p1 p2 p3 p4 p5 : Int32) (cells slots : Nat) (t : Tw) (sh : Kp) (sw sdr sim : Wd) (srd : Rd) (ssc : Sc) (sth : Wd) (w0 : va_W) (slo : Lo) (str : Wd) (P : va_W) (g : Nat → Int64) (H : Heap) (locs : List Loc) (ls : Array Slot), j < 64 → sAt xs L i 1 p1 → sAt xs L i 2 p2 → sAt xs L i 3 p3 → sAt xs L i 4 p4 → sAt xs L i 5 p5 → I j cells slots t sh sw sdr sim srd ssc sth w0 slo str P → va_P D zCl (lawW k a6 ah aw adr aim ard asc ath awl alo atr ao t sh sw sdr sim srd ssc sth w0 slo str P g) H → va_D (fun q => s.heap.size ≤ q) (lawW k a6 ah aw adr aim ard asc ath awl alo atr ao t sh sw sdr sim srd ssc sth w0 slo str P g) → va_S (fun q => s.heap.size ≤ q) s.heap H locs → lv_has ls 7 [(0, .ref b), (1, .ref (ah 0)), (2, .ref (a6 0)), (3, .ref ao), (4, .int i)] → (∀ (t6 : Tw) (c6 s6 : Nat), lwK p l e s m below meth c Q D k b a6 ah aw adr aim ard asc ath awl alo atr ao i t6 c6 s6 (I (j + 1) c6 s6 t6)) → W p l e room_1 s m #[Value.ref b] below meth c H locs cells slots Q (F0 m pc ls [])
set_option maxRecDepth 100000 in
theorem lawLoop {p : Program} {l : Launch} {e : Env} {s : State} {m : MethodId} {below : List Frame} {meth : Method} {c : Code} {Q : State → Prop} {D : va_G} {k : Nat → ClassId} {b L : Nat} {xs : Nat → Int32} {a6 ah aw adr aim ard asc ath awl alo atr : Nat → Nat} {ao : Nat} {adK adV : Nat → Nat} {e0 mi : Nat} {aF : Nat → Nat} {vq : Nat} (hC : lwC p s m c D k (zZZ D k adK adV e0 mi aF vq) b L xs) (hL : L ≤ 384) {I : Nat → Nat → Nat → Tw → Kp → Wd → Wd → Wd → Rd → Sc → Wd → va_W → Lo → Wd → va_W → Prop} (hex : ∀ (j cells slots : Nat) (t : Tw) (sh : Kp) (sw sdr sim : Wd) (srd : Rd) (ssc : Sc) (sth : Wd) (w0 : va_W) (slo : Lo) (str : Wd) (P : va_W) (H : Heap) (locs : List Loc) (ls : Array Slot), j ≤ 64 → I j cells slots t sh sw sdr sim srd ssc sth w0 slo str P → va_S (fun q => s.heap.size ≤ q) s.heap H locs → W p l e room_1 s m #[Value.ref b] below meth c H locs cells slots Q (F0 m 2971 ls [])) (hmono : ∀ (j cells slots : Nat) (t : Tw) (sh : Kp) (sw sdr sim : Wd) (srd : Rd) (ssc : Sc) (sth : Wd) (w0 : va_W) (slo : Lo) (str : Wd) (P : va_W), I j cells slots t sh sw sdr sim srd ssc sth w0 slo str P → I (j + 1) cells slots t sh sw sdr sim srd ssc sth w0 slo str P) (hst : ∀ pc ∈ [288, 361, 386, 430, 474, 487, 555, 623, 707, 782, 850, 941, 1032, 1135, 1191, 1247, 1303, 1359, 1415, 1471, 1551, 1564, 1620, 1688, 1701, 1757, 1770, 1783, 1839, 1852, 1865, 1878, 1891, 1916, 1972, 2016, 2060, 2132, 2176, 2189, 2202, 2270, 2283, 2351, 2364, 2377, 2433, 2489, 2545, 2558, 2642, 2726, 2810, 2878, 2903, 2916, 2927, 2940], lwStep p l e s m below meth c Q D k b L xs a6 ah aw adr aim ard asc ath awl alo atr ao I pc) : ∀ (d j : Nat) (cells slots : Nat) (t : Tw) (sh : Kp) (sw sdr sim : Wd) (srd : Rd) (ssc : Sc) (sth : Wd) (w0 : va_W) (slo : Lo) (str : Wd) (P : va_W) (g : Nat → Int64) (H : Heap) (locs : List Loc) (ls : Array Slot), d + j = 64 → I j cells slots t sh sw sdr sim srd ssc sth w0 slo str P → va_P D zCl (lawW k a6 ah aw adr aim ard asc ath awl alo atr ao t sh sw sdr sim srd ssc sth w0 slo str P g) H → va_D (fun q => s.heap.size ≤ q) (lawW k a6 ah aw adr aim ard asc ath awl alo atr ao t sh sw sdr sim srd ssc sth w0 slo str P g) → va_S (fun q => s.heap.size ≤ q) s.heap H locs → lv_has ls 7 [(0, .ref b), (1, .ref (ah 0)), (2, .ref (a6 0)), (3, .ref ao), (4, .int (nI (6 * j)))] → W p l e room_1 s m #[Value.ref b] below meth c H locs cells slots Q (F0 m 23 ls []) := by
  obtain ⟨hx, hb, hml, hown, hts, hX, hbl, hOK, hz⟩ := hC
  have hbA : ¬ (fun q => s.heap.size ≤ q) b := Nat.not_le.mpr hbl
  intro d
  induction d with
  | zero =>
    intro j cells slots t sh sw sdr sim srd ssc sth w0 slo str P g H locs ls hd hI hP hD hS hl
    refine lv_iload hx hb dL_law_23 (lv_at hl 4 rfl) ?_
    refine lv_aload_n hx hb dL_law_25 rfl (lv_at hl 0 rfl) ?_
    refine va_slen hx hb hX hbl hbA hS dL_law_26 ?_
    refine lv_bipush (v := (6 : Int32)) hx hb dL_law_27 (by decide) ?_
    refine lv_isub hx hb dL_law_29 ?_
    refine lv_icmp_gt (tgt := 2971) hx hb dL_law_30 (by decide) (fun _ => hex _ _ _ _ _ _ _ _ _ _ _ _ _ _ _ _ _ _ (by omega) hI hS) (fun c1 => ?_)
    have hm := lw_more hL (by omega) c1
    exact absurd hm (by omega)
  | succ d ih =>
    intro j cells slots t sh sw sdr sim srd ssc sth w0 slo str P g H locs ls hd hI hP hD hS hl
    refine lv_iload hx hb dL_law_23 (lv_at hl 4 rfl) ?_
    refine lv_aload_n hx hb dL_law_25 rfl (lv_at hl 0 rfl) ?_
    refine va_slen hx hb hX hbl hbA hS dL_law_26 ?_
    refine lv_bipush (v := (6 : Int32)) hx hb dL_law_27 (by decide) ?_
    refine lv_isub hx hb dL_law_29 ?_
    refine lv_icmp_gt (tgt := 2971) hx hb dL_law_30 (by decide) (fun _ => hex _ _ _ _ _ _ _ _ _ _ _ _ _ _ _ _ _ _ (by omega) hI hS) (fun c1 => ?_)
    have hm := lw_more hL (by omega) c1
    have hin : ∀ q : Nat, q < 6 → vp_in (nI (6 * j) + nI q) L := fun q hq => by rw [nI_add]; exact vp_in_nI (by omega) (by omega)
    obtain ⟨i, ei⟩ : ∃ i : Int32, i = nI (6 * j) := ⟨_, rfl⟩
    rw [← ei] at hin hl
    refine lv_aload_n hx hb dL_law_33 rfl (lv_at hl 0 rfl) ?_
    refine lv_iload hx hb dL_law_34 (lv_at hl 4 rfl) ?_
    have h00 := hin 0 (by decide)
    rw [show i + nI 0 = i from Int32.add_zero i] at h00
    refine va_sld hx hb hX hbl hbA hS h00 dL_law_36 ?_
    refine lv_bipush (v := (63 : Int32)) hx hb dL_law_37 (by decide) ?_
    refine lv_iand hx hb dL_law_39 ?_
    obtain ⟨n, hn, en⟩ := and63 (xs i.toNatClampNeg)
    rw [en]
    have hgo : ∀ (cells' slots' : Nat) (t' : Tw) (sh : Kp) (sw sdr sim : Wd) (srd : Rd) (ssc : Sc) (sth : Wd) (w0 : va_W) (slo : Lo) (str : Wd) (P : va_W) (g' : Nat → Int64) (H : Heap) (locs : List Loc), I (j + 1) cells' slots' t' sh sw sdr sim srd ssc sth w0 slo str P → va_P D zCl (lawW k a6 ah aw adr aim ard asc ath awl alo atr ao t' sh sw sdr sim srd ssc sth w0 slo str P g') H → va_D (fun q => s.heap.size ≤ q) (lawW k a6 ah aw adr aim ard asc ath awl alo atr ao t' sh sw sdr sim srd ssc sth w0 slo str P g') → va_S (fun q => s.heap.size ≤ q) s.heap H locs → ∀ ls : Array Slot, lv_has ls 7 [(0, .ref b), (1, .ref (ah 0)), (2, .ref (a6 0)), (3, .ref ao), (4, .int i)] → W p l e room_1 s m #[Value.ref b] below meth c H locs cells' slots' Q (F0 m 2965 ls []) := by
      intro cells' slots' t' sh sw sdr sim srd ssc sth w0 slo str P g' H locs hI hP hD hS ls hl
      refine lv_iinc (v := nI (6 * (j + 1))) (lv' := [(4, .int (nI (6 * (j + 1)))), (0, .ref b), (1, .ref (ah 0)), (2, .ref (a6 0)), (3, .ref ao)]) hx hb dL_law_2965 hl (k := 4) rfl (by rw [ei]; exact nI_add (6 * j) 6) (by decide) rfl (fun ls hl => ?_)
      refine lv_goto (tgt := 23) hx hb dL_law_2968 (by decide) ?_
      exact ih (j + 1) _ _ _ _ _ _ _ _ _ _ _ _ _ _ _ _ _ _ (by omega) hI hP hD hS (lv_sub hl [1, 2, 3, 4, 0] rfl)
    have hkk : ∀ (t6 : Tw) (c6 s6 : Nat), lwK p l e s m below meth c Q D k b a6 ah aw adr aim ard asc ath awl alo atr ao i t6 c6 s6 (I (j + 1) c6 s6 t6) := fun t6 c6 s6 sh sw sdr sim srd ssc sth w0 slo str P g' H locs hI hP hD hS ls hl => hgo c6 s6 t6 sh sw sdr sim srd ssc sth w0 slo str P g' H locs hI hP hD hS ls hl
    have hstep : ∀ pc ∈ [288, 361, 386, 430, 474, 487, 555, 623, 707, 782, 850, 941, 1032, 1135, 1191, 1247, 1303, 1359, 1415, 1471, 1551, 1564, 1620, 1688, 1701, 1757, 1770, 1783, 1839, 1852, 1865, 1878, 1891, 1916, 1972, 2016, 2060, 2132, 2176, 2189, 2202, 2270, 2283, 2351, 2364, 2377, 2433, 2489, 2545, 2558, 2642, 2726, 2810, 2878, 2903, 2916, 2927, 2940], W p l e room_1 s m #[Value.ref b] below meth c H locs cells slots Q (F0 m pc ls []) := fun pc hpc => hst pc hpc j i _ _ _ _ _ cells slots t sh sw sdr sim srd ssc sth w0 slo str P g H locs ls (by omega) ⟨hin 1 (by decide), rfl⟩ ⟨hin 2 (by decide), rfl⟩ ⟨hin 3 (by decide), rfl⟩ ⟨hin 4 (by decide), rfl⟩ ⟨hin 5 (by decide), rfl⟩ hI hP hD hS hl hkk
    match n, hn with
    | 0, _ => exact lv_tableIn (off := 248) (tgt := 288) hx hb dL_law_40 (by decide) (by decide) rfl (by decide) (hstep 288 (List.mem_of_getElem? (i := 0) rfl))
    | 1, _ => exact lv_tableIn (off := 321) (tgt := 361) hx hb dL_law_40 (by decide) (by decide) rfl (by decide) (hstep 361 (List.mem_of_getElem? (i := 1) rfl))
    | 2, _ => exact lv_tableIn (off := 346) (tgt := 386) hx hb dL_law_40 (by decide) (by decide) rfl (by decide) (hstep 386 (List.mem_of_getElem? (i := 2) rfl))
    | 3, _ => exact lv_tableIn (off := 390) (tgt := 430) hx hb dL_law_40 (by decide) (by decide) rfl (by decide) (hstep 430 (List.mem_of_getElem? (i := 3) rfl))
    | 4, _ => exact lv_tableIn (off := 434) (tgt := 474) hx hb dL_law_40 (by decide) (by decide) rfl (by decide) (hstep 474 (List.mem_of_getElem? (i := 4) rfl))
    | 5, _ => exact lv_tableIn (off := 447) (tgt := 487) hx hb dL_law_40 (by decide) (by decide) rfl (by decide) (hstep 487 (List.mem_of_getElem? (i := 5) rfl))
    | 6, _ => exact lv_tableIn (off := 515) (tgt := 555) hx hb dL_law_40 (by decide) (by decide) rfl (by decide) (hstep 555 (List.mem_of_getElem? (i := 6) rfl))
    | 7, _ => exact lv_tableIn (off := 583) (tgt := 623) hx hb dL_law_40 (by decide) (by decide) rfl (by decide) (hstep 623 (List.mem_of_getElem? (i := 7) rfl))
    | 8, _ => exact lv_tableIn (off := 667) (tgt := 707) hx hb dL_law_40 (by decide) (by decide) rfl (by decide) (hstep 707 (List.mem_of_getElem? (i := 8) rfl))
    | 9, _ => exact lv_tableIn (off := 742) (tgt := 782) hx hb dL_law_40 (by decide) (by decide) rfl (by decide) (hstep 782 (List.mem_of_getElem? (i := 9) rfl))
    | 10, _ => exact lv_tableIn (off := 810) (tgt := 850) hx hb dL_law_40 (by decide) (by decide) rfl (by decide) (hstep 850 (List.mem_of_getElem? (i := 10) rfl))
    | 11, _ => exact lv_tableIn (off := 901) (tgt := 941) hx hb dL_law_40 (by decide) (by decide) rfl (by decide) (hstep 941 (List.mem_of_getElem? (i := 11) rfl))
    | 12, _ => exact lv_tableIn (off := 992) (tgt := 1032) hx hb dL_law_40 (by decide) (by decide) rfl (by decide) (hstep 1032 (List.mem_of_getElem? (i := 12) rfl))
    | 13, _ => exact lv_tableIn (off := 1095) (tgt := 1135) hx hb dL_law_40 (by decide) (by decide) rfl (by decide) (hstep 1135 (List.mem_of_getElem? (i := 13) rfl))
    | 14, _ => exact lv_tableIn (off := 1151) (tgt := 1191) hx hb dL_law_40 (by decide) (by decide) rfl (by decide) (hstep 1191 (List.mem_of_getElem? (i := 14) rfl))
    | 15, _ => exact lv_tableIn (off := 1207) (tgt := 1247) hx hb dL_law_40 (by decide) (by decide) rfl (by decide) (hstep 1247 (List.mem_of_getElem? (i := 15) rfl))
    | 16, _ => exact lv_tableIn (off := 1263) (tgt := 1303) hx hb dL_law_40 (by decide) (by decide) rfl (by decide) (hstep 1303 (List.mem_of_getElem? (i := 16) rfl))
    | 17, _ => exact lv_tableIn (off := 1319) (tgt := 1359) hx hb dL_law_40 (by decide) (by decide) rfl (by decide) (hstep 1359 (List.mem_of_getElem? (i := 17) rfl))
    | 18, _ => exact lv_tableIn (off := 1375) (tgt := 1415) hx hb dL_law_40 (by decide) (by decide) rfl (by decide) (hstep 1415 (List.mem_of_getElem? (i := 18) rfl))
    | 19, _ => exact lv_tableIn (off := 1431) (tgt := 1471) hx hb dL_law_40 (by decide) (by decide) rfl (by decide) (hstep 1471 (List.mem_of_getElem? (i := 19) rfl))
    | 20, _ => exact lv_tableIn (off := 1511) (tgt := 1551) hx hb dL_law_40 (by decide) (by decide) rfl (by decide) (hstep 1551 (List.mem_of_getElem? (i := 20) rfl))
    | 21, _ => exact lv_tableIn (off := 1524) (tgt := 1564) hx hb dL_law_40 (by decide) (by decide) rfl (by decide) (hstep 1564 (List.mem_of_getElem? (i := 21) rfl))
    | 22, _ => exact lv_tableIn (off := 1580) (tgt := 1620) hx hb dL_law_40 (by decide) (by decide) rfl (by decide) (hstep 1620 (List.mem_of_getElem? (i := 22) rfl))
    | 23, _ => exact lv_tableIn (off := 1648) (tgt := 1688) hx hb dL_law_40 (by decide) (by decide) rfl (by decide) (hstep 1688 (List.mem_of_getElem? (i := 23) rfl))
    | 24, _ => exact lv_tableIn (off := 1661) (tgt := 1701) hx hb dL_law_40 (by decide) (by decide) rfl (by decide) (hstep 1701 (List.mem_of_getElem? (i := 24) rfl))
    | 25, _ => exact lv_tableIn (off := 1717) (tgt := 1757) hx hb dL_law_40 (by decide) (by decide) rfl (by decide) (hstep 1757 (List.mem_of_getElem? (i := 25) rfl))
    | 26, _ => exact lv_tableIn (off := 1730) (tgt := 1770) hx hb dL_law_40 (by decide) (by decide) rfl (by decide) (hstep 1770 (List.mem_of_getElem? (i := 26) rfl))
    | 27, _ => exact lv_tableIn (off := 1743) (tgt := 1783) hx hb dL_law_40 (by decide) (by decide) rfl (by decide) (hstep 1783 (List.mem_of_getElem? (i := 27) rfl))
    | 28, _ => exact lv_tableIn (off := 1799) (tgt := 1839) hx hb dL_law_40 (by decide) (by decide) rfl (by decide) (hstep 1839 (List.mem_of_getElem? (i := 28) rfl))
    | 29, _ => exact lv_tableIn (off := 1812) (tgt := 1852) hx hb dL_law_40 (by decide) (by decide) rfl (by decide) (hstep 1852 (List.mem_of_getElem? (i := 29) rfl))
    | 30, _ => exact lv_tableIn (off := 1825) (tgt := 1865) hx hb dL_law_40 (by decide) (by decide) rfl (by decide) (hstep 1865 (List.mem_of_getElem? (i := 30) rfl))
    | 31, _ => exact lv_tableIn (off := 1838) (tgt := 1878) hx hb dL_law_40 (by decide) (by decide) rfl (by decide) (hstep 1878 (List.mem_of_getElem? (i := 31) rfl))
    | 32, _ => exact lv_tableIn (off := 1851) (tgt := 1891) hx hb dL_law_40 (by decide) (by decide) rfl (by decide) (hstep 1891 (List.mem_of_getElem? (i := 32) rfl))
    | 33, _ => exact lv_tableIn (off := 1876) (tgt := 1916) hx hb dL_law_40 (by decide) (by decide) rfl (by decide) (hstep 1916 (List.mem_of_getElem? (i := 33) rfl))
    | 34, _ => exact lv_tableIn (off := 1932) (tgt := 1972) hx hb dL_law_40 (by decide) (by decide) rfl (by decide) (hstep 1972 (List.mem_of_getElem? (i := 34) rfl))
    | 35, _ => exact lv_tableIn (off := 1976) (tgt := 2016) hx hb dL_law_40 (by decide) (by decide) rfl (by decide) (hstep 2016 (List.mem_of_getElem? (i := 35) rfl))
    | 36, _ => exact lv_tableIn (off := 2020) (tgt := 2060) hx hb dL_law_40 (by decide) (by decide) rfl (by decide) (hstep 2060 (List.mem_of_getElem? (i := 36) rfl))
    | 37, _ => exact lv_tableIn (off := 2092) (tgt := 2132) hx hb dL_law_40 (by decide) (by decide) rfl (by decide) (hstep 2132 (List.mem_of_getElem? (i := 37) rfl))
    | 38, _ => exact lv_tableIn (off := 2136) (tgt := 2176) hx hb dL_law_40 (by decide) (by decide) rfl (by decide) (hstep 2176 (List.mem_of_getElem? (i := 38) rfl))
    | 39, _ => exact lv_tableIn (off := 2149) (tgt := 2189) hx hb dL_law_40 (by decide) (by decide) rfl (by decide) (hstep 2189 (List.mem_of_getElem? (i := 39) rfl))
    | 40, _ => exact lv_tableIn (off := 2162) (tgt := 2202) hx hb dL_law_40 (by decide) (by decide) rfl (by decide) (hstep 2202 (List.mem_of_getElem? (i := 40) rfl))
    | 41, _ => exact lv_tableIn (off := 2230) (tgt := 2270) hx hb dL_law_40 (by decide) (by decide) rfl (by decide) (hstep 2270 (List.mem_of_getElem? (i := 41) rfl))
    | 42, _ => exact lv_tableIn (off := 2243) (tgt := 2283) hx hb dL_law_40 (by decide) (by decide) rfl (by decide) (hstep 2283 (List.mem_of_getElem? (i := 42) rfl))
    | 43, _ => exact lv_tableIn (off := 2311) (tgt := 2351) hx hb dL_law_40 (by decide) (by decide) rfl (by decide) (hstep 2351 (List.mem_of_getElem? (i := 43) rfl))
    | 44, _ => exact lv_tableIn (off := 2324) (tgt := 2364) hx hb dL_law_40 (by decide) (by decide) rfl (by decide) (hstep 2364 (List.mem_of_getElem? (i := 44) rfl))
    | 45, _ => exact lv_tableIn (off := 2337) (tgt := 2377) hx hb dL_law_40 (by decide) (by decide) rfl (by decide) (hstep 2377 (List.mem_of_getElem? (i := 45) rfl))
    | 46, _ => exact lv_tableIn (off := 2393) (tgt := 2433) hx hb dL_law_40 (by decide) (by decide) rfl (by decide) (hstep 2433 (List.mem_of_getElem? (i := 46) rfl))
    | 47, _ => exact lv_tableIn (off := 2449) (tgt := 2489) hx hb dL_law_40 (by decide) (by decide) rfl (by decide) (hstep 2489 (List.mem_of_getElem? (i := 47) rfl))
    | 48, _ => exact lv_tableIn (off := 2505) (tgt := 2545) hx hb dL_law_40 (by decide) (by decide) rfl (by decide) (hstep 2545 (List.mem_of_getElem? (i := 48) rfl))
    | 49, _ => exact lv_tableIn (off := 2518) (tgt := 2558) hx hb dL_law_40 (by decide) (by decide) rfl (by decide) (hstep 2558 (List.mem_of_getElem? (i := 49) rfl))
    | 50, _ => exact lv_tableIn (off := 2602) (tgt := 2642) hx hb dL_law_40 (by decide) (by decide) rfl (by decide) (hstep 2642 (List.mem_of_getElem? (i := 50) rfl))
    | 51, _ => exact lv_tableIn (off := 2686) (tgt := 2726) hx hb dL_law_40 (by decide) (by decide) rfl (by decide) (hstep 2726 (List.mem_of_getElem? (i := 51) rfl))
    | 52, _ => exact lv_tableIn (off := 2770) (tgt := 2810) hx hb dL_law_40 (by decide) (by decide) rfl (by decide) (hstep 2810 (List.mem_of_getElem? (i := 52) rfl))
    | 53, _ => exact lv_tableIn (off := 2838) (tgt := 2878) hx hb dL_law_40 (by decide) (by decide) rfl (by decide) (hstep 2878 (List.mem_of_getElem? (i := 53) rfl))
    | 54, _ => exact lv_tableIn (off := 2863) (tgt := 2903) hx hb dL_law_40 (by decide) (by decide) rfl (by decide) (hstep 2903 (List.mem_of_getElem? (i := 54) rfl))
    | 55, _ => exact lv_tableIn (off := 2876) (tgt := 2916) hx hb dL_law_40 (by decide) (by decide) rfl (by decide) (hstep 2916 (List.mem_of_getElem? (i := 55) rfl))
    | 56, _ => exact lv_tableIn (off := 2887) (tgt := 2927) hx hb dL_law_40 (by decide) (by decide) rfl (by decide) (hstep 2927 (List.mem_of_getElem? (i := 56) rfl))
    | 57, _ => exact lv_tableIn (off := 2900) (tgt := 2940) hx hb dL_law_40 (by decide) (by decide) rfl (by decide) (hstep 2940 (List.mem_of_getElem? (i := 57) rfl))
    | 58, _ => exact lv_tableOut (tgt := 2965) hx hb dL_law_40 (Or.inr (by decide)) (by decide) (hgo _ _ _ _ _ _ _ _ _ _ _ _ _ _ _ _ _ (hmono _ _ _ _ _ _ _ _ _ _ _ _ _ _ _ hI) hP hD hS _ hl)
    | 59, _ => exact lv_tableOut (tgt := 2965) hx hb dL_law_40 (Or.inr (by decide)) (by decide) (hgo _ _ _ _ _ _ _ _ _ _ _ _ _ _ _ _ _ (hmono _ _ _ _ _ _ _ _ _ _ _ _ _ _ _ hI) hP hD hS _ hl)
    | 60, _ => exact lv_tableOut (tgt := 2965) hx hb dL_law_40 (Or.inr (by decide)) (by decide) (hgo _ _ _ _ _ _ _ _ _ _ _ _ _ _ _ _ _ (hmono _ _ _ _ _ _ _ _ _ _ _ _ _ _ _ hI) hP hD hS _ hl)
    | 61, _ => exact lv_tableOut (tgt := 2965) hx hb dL_law_40 (Or.inr (by decide)) (by decide) (hgo _ _ _ _ _ _ _ _ _ _ _ _ _ _ _ _ _ (hmono _ _ _ _ _ _ _ _ _ _ _ _ _ _ _ hI) hP hD hS _ hl)
    | 62, _ => exact lv_tableOut (tgt := 2965) hx hb dL_law_40 (Or.inr (by decide)) (by decide) (hgo _ _ _ _ _ _ _ _ _ _ _ _ _ _ _ _ _ (hmono _ _ _ _ _ _ _ _ _ _ _ _ _ _ _ hI) hP hD hS _ hl)
    | 63, _ => exact lv_tableOut (tgt := 2965) hx hb dL_law_40 (Or.inr (by decide)) (by decide) (hgo _ _ _ _ _ _ _ _ _ _ _ _ _ _ _ _ _ (hmono _ _ _ _ _ _ _ _ _ _ _ _ _ _ _ hI) hP hD hS _ hl)
    | q + 64, hq => exact absurd hq (by omega)
