/-! PURE LAWS: seed, image, back, undo, count -/
theorem e0_1 : (nI 0 = nI 1) = False := eq_false (by decide +kernel)
theorem e0_2 : (nI 0 = nI 2) = False := eq_false (by decide +kernel)
theorem e0_3 : (nI 0 = nI 3) = False := eq_false (by decide +kernel)
theorem e0_4 : (nI 0 = nI 4) = False := eq_false (by decide +kernel)
theorem e0_5 : (nI 0 = nI 5) = False := eq_false (by decide +kernel)
theorem e0_6 : (nI 0 = nI 6) = False := eq_false (by decide +kernel)
theorem e0_7 : (nI 0 = nI 7) = False := eq_false (by decide +kernel)
theorem e0_8 : (nI 0 = nI 8) = False := eq_false (by decide +kernel)
theorem e0_9 : (nI 0 = nI 9) = False := eq_false (by decide +kernel)
theorem e0_10 : (nI 0 = nI 10) = False := eq_false (by decide +kernel)
theorem e0_11 : (nI 0 = nI 11) = False := eq_false (by decide +kernel)
theorem e0_12 : (nI 0 = nI 12) = False := eq_false (by decide +kernel)
theorem e0_13 : (nI 0 = nI 13) = False := eq_false (by decide +kernel)
theorem e0_14 : (nI 0 = nI 14) = False := eq_false (by decide +kernel)
theorem e0_15 : (nI 0 = nI 15) = False := eq_false (by decide +kernel)
theorem e1_0 : (nI 1 = nI 0) = False := eq_false (by decide +kernel)
theorem e1_2 : (nI 1 = nI 2) = False := eq_false (by decide +kernel)
theorem e1_3 : (nI 1 = nI 3) = False := eq_false (by decide +kernel)
theorem e1_4 : (nI 1 = nI 4) = False := eq_false (by decide +kernel)
theorem e1_5 : (nI 1 = nI 5) = False := eq_false (by decide +kernel)
theorem e1_6 : (nI 1 = nI 6) = False := eq_false (by decide +kernel)
theorem e1_7 : (nI 1 = nI 7) = False := eq_false (by decide +kernel)
theorem e1_8 : (nI 1 = nI 8) = False := eq_false (by decide +kernel)
theorem e1_9 : (nI 1 = nI 9) = False := eq_false (by decide +kernel)
theorem e1_10 : (nI 1 = nI 10) = False := eq_false (by decide +kernel)
theorem e1_11 : (nI 1 = nI 11) = False := eq_false (by decide +kernel)
theorem e1_12 : (nI 1 = nI 12) = False := eq_false (by decide +kernel)
theorem e1_13 : (nI 1 = nI 13) = False := eq_false (by decide +kernel)
theorem e1_14 : (nI 1 = nI 14) = False := eq_false (by decide +kernel)
theorem e1_15 : (nI 1 = nI 15) = False := eq_false (by decide +kernel)
theorem e2_0 : (nI 2 = nI 0) = False := eq_false (by decide +kernel)
theorem e2_1 : (nI 2 = nI 1) = False := eq_false (by decide +kernel)
theorem e2_3 : (nI 2 = nI 3) = False := eq_false (by decide +kernel)
theorem e2_4 : (nI 2 = nI 4) = False := eq_false (by decide +kernel)
theorem e2_5 : (nI 2 = nI 5) = False := eq_false (by decide +kernel)
theorem e2_6 : (nI 2 = nI 6) = False := eq_false (by decide +kernel)
theorem e2_7 : (nI 2 = nI 7) = False := eq_false (by decide +kernel)
theorem e2_8 : (nI 2 = nI 8) = False := eq_false (by decide +kernel)
theorem e2_9 : (nI 2 = nI 9) = False := eq_false (by decide +kernel)
theorem e2_10 : (nI 2 = nI 10) = False := eq_false (by decide +kernel)
theorem e2_11 : (nI 2 = nI 11) = False := eq_false (by decide +kernel)
theorem e2_12 : (nI 2 = nI 12) = False := eq_false (by decide +kernel)
theorem e2_13 : (nI 2 = nI 13) = False := eq_false (by decide +kernel)
theorem e2_14 : (nI 2 = nI 14) = False := eq_false (by decide +kernel)
theorem e2_15 : (nI 2 = nI 15) = False := eq_false (by decide +kernel)
theorem e3_0 : (nI 3 = nI 0) = False := eq_false (by decide +kernel)
theorem e3_1 : (nI 3 = nI 1) = False := eq_false (by decide +kernel)
theorem e3_2 : (nI 3 = nI 2) = False := eq_false (by decide +kernel)
theorem e3_4 : (nI 3 = nI 4) = False := eq_false (by decide +kernel)
theorem e3_5 : (nI 3 = nI 5) = False := eq_false (by decide +kernel)
theorem e3_6 : (nI 3 = nI 6) = False := eq_false (by decide +kernel)
theorem e3_7 : (nI 3 = nI 7) = False := eq_false (by decide +kernel)
theorem e3_8 : (nI 3 = nI 8) = False := eq_false (by decide +kernel)
theorem e3_9 : (nI 3 = nI 9) = False := eq_false (by decide +kernel)
theorem e3_10 : (nI 3 = nI 10) = False := eq_false (by decide +kernel)
theorem e3_11 : (nI 3 = nI 11) = False := eq_false (by decide +kernel)
theorem e3_12 : (nI 3 = nI 12) = False := eq_false (by decide +kernel)
theorem e3_13 : (nI 3 = nI 13) = False := eq_false (by decide +kernel)
theorem e3_14 : (nI 3 = nI 14) = False := eq_false (by decide +kernel)
theorem e3_15 : (nI 3 = nI 15) = False := eq_false (by decide +kernel)
theorem e4_0 : (nI 4 = nI 0) = False := eq_false (by decide +kernel)
theorem e4_1 : (nI 4 = nI 1) = False := eq_false (by decide +kernel)
theorem e4_2 : (nI 4 = nI 2) = False := eq_false (by decide +kernel)
theorem e4_3 : (nI 4 = nI 3) = False := eq_false (by decide +kernel)
theorem e4_5 : (nI 4 = nI 5) = False := eq_false (by decide +kernel)
theorem e4_6 : (nI 4 = nI 6) = False := eq_false (by decide +kernel)
theorem e4_7 : (nI 4 = nI 7) = False := eq_false (by decide +kernel)
theorem e4_8 : (nI 4 = nI 8) = False := eq_false (by decide +kernel)
theorem e4_9 : (nI 4 = nI 9) = False := eq_false (by decide +kernel)
theorem e4_10 : (nI 4 = nI 10) = False := eq_false (by decide +kernel)
theorem e4_11 : (nI 4 = nI 11) = False := eq_false (by decide +kernel)
theorem e4_12 : (nI 4 = nI 12) = False := eq_false (by decide +kernel)
theorem e4_13 : (nI 4 = nI 13) = False := eq_false (by decide +kernel)
theorem e4_14 : (nI 4 = nI 14) = False := eq_false (by decide +kernel)
theorem e4_15 : (nI 4 = nI 15) = False := eq_false (by decide +kernel)
theorem e5_0 : (nI 5 = nI 0) = False := eq_false (by decide +kernel)
theorem e5_1 : (nI 5 = nI 1) = False := eq_false (by decide +kernel)
theorem e5_2 : (nI 5 = nI 2) = False := eq_false (by decide +kernel)
theorem e5_3 : (nI 5 = nI 3) = False := eq_false (by decide +kernel)
theorem e5_4 : (nI 5 = nI 4) = False := eq_false (by decide +kernel)
theorem e5_6 : (nI 5 = nI 6) = False := eq_false (by decide +kernel)
theorem e5_7 : (nI 5 = nI 7) = False := eq_false (by decide +kernel)
theorem e5_8 : (nI 5 = nI 8) = False := eq_false (by decide +kernel)
theorem e5_9 : (nI 5 = nI 9) = False := eq_false (by decide +kernel)
theorem e5_10 : (nI 5 = nI 10) = False := eq_false (by decide +kernel)
theorem e5_11 : (nI 5 = nI 11) = False := eq_false (by decide +kernel)
theorem e5_12 : (nI 5 = nI 12) = False := eq_false (by decide +kernel)
theorem e5_13 : (nI 5 = nI 13) = False := eq_false (by decide +kernel)
theorem e5_14 : (nI 5 = nI 14) = False := eq_false (by decide +kernel)
theorem e5_15 : (nI 5 = nI 15) = False := eq_false (by decide +kernel)
theorem e6_0 : (nI 6 = nI 0) = False := eq_false (by decide +kernel)
theorem e6_1 : (nI 6 = nI 1) = False := eq_false (by decide +kernel)
theorem e6_2 : (nI 6 = nI 2) = False := eq_false (by decide +kernel)
theorem e6_3 : (nI 6 = nI 3) = False := eq_false (by decide +kernel)
theorem e6_4 : (nI 6 = nI 4) = False := eq_false (by decide +kernel)
theorem e6_5 : (nI 6 = nI 5) = False := eq_false (by decide +kernel)
theorem e6_7 : (nI 6 = nI 7) = False := eq_false (by decide +kernel)
theorem e6_8 : (nI 6 = nI 8) = False := eq_false (by decide +kernel)
theorem e6_9 : (nI 6 = nI 9) = False := eq_false (by decide +kernel)
theorem e6_10 : (nI 6 = nI 10) = False := eq_false (by decide +kernel)
theorem e6_11 : (nI 6 = nI 11) = False := eq_false (by decide +kernel)
theorem e6_12 : (nI 6 = nI 12) = False := eq_false (by decide +kernel)
theorem e6_13 : (nI 6 = nI 13) = False := eq_false (by decide +kernel)
theorem e6_14 : (nI 6 = nI 14) = False := eq_false (by decide +kernel)
theorem e6_15 : (nI 6 = nI 15) = False := eq_false (by decide +kernel)
theorem e7_0 : (nI 7 = nI 0) = False := eq_false (by decide +kernel)
theorem e7_1 : (nI 7 = nI 1) = False := eq_false (by decide +kernel)
theorem e7_2 : (nI 7 = nI 2) = False := eq_false (by decide +kernel)
theorem e7_3 : (nI 7 = nI 3) = False := eq_false (by decide +kernel)
theorem e7_4 : (nI 7 = nI 4) = False := eq_false (by decide +kernel)
theorem e7_5 : (nI 7 = nI 5) = False := eq_false (by decide +kernel)
theorem e7_6 : (nI 7 = nI 6) = False := eq_false (by decide +kernel)
theorem e7_8 : (nI 7 = nI 8) = False := eq_false (by decide +kernel)
theorem e7_9 : (nI 7 = nI 9) = False := eq_false (by decide +kernel)
theorem e7_10 : (nI 7 = nI 10) = False := eq_false (by decide +kernel)
theorem e7_11 : (nI 7 = nI 11) = False := eq_false (by decide +kernel)
theorem e7_12 : (nI 7 = nI 12) = False := eq_false (by decide +kernel)
theorem e7_13 : (nI 7 = nI 13) = False := eq_false (by decide +kernel)
theorem e7_14 : (nI 7 = nI 14) = False := eq_false (by decide +kernel)
theorem e7_15 : (nI 7 = nI 15) = False := eq_false (by decide +kernel)
theorem e8_0 : (nI 8 = nI 0) = False := eq_false (by decide +kernel)
theorem e8_1 : (nI 8 = nI 1) = False := eq_false (by decide +kernel)
theorem e8_2 : (nI 8 = nI 2) = False := eq_false (by decide +kernel)
theorem e8_3 : (nI 8 = nI 3) = False := eq_false (by decide +kernel)
theorem e8_4 : (nI 8 = nI 4) = False := eq_false (by decide +kernel)
theorem e8_5 : (nI 8 = nI 5) = False := eq_false (by decide +kernel)
theorem e8_6 : (nI 8 = nI 6) = False := eq_false (by decide +kernel)
theorem e8_7 : (nI 8 = nI 7) = False := eq_false (by decide +kernel)
theorem e8_9 : (nI 8 = nI 9) = False := eq_false (by decide +kernel)
theorem e8_10 : (nI 8 = nI 10) = False := eq_false (by decide +kernel)
theorem e8_11 : (nI 8 = nI 11) = False := eq_false (by decide +kernel)
theorem e8_12 : (nI 8 = nI 12) = False := eq_false (by decide +kernel)
theorem e8_13 : (nI 8 = nI 13) = False := eq_false (by decide +kernel)
theorem e8_14 : (nI 8 = nI 14) = False := eq_false (by decide +kernel)
theorem e8_15 : (nI 8 = nI 15) = False := eq_false (by decide +kernel)
theorem e9_0 : (nI 9 = nI 0) = False := eq_false (by decide +kernel)
theorem e9_1 : (nI 9 = nI 1) = False := eq_false (by decide +kernel)
theorem e9_2 : (nI 9 = nI 2) = False := eq_false (by decide +kernel)
theorem e9_3 : (nI 9 = nI 3) = False := eq_false (by decide +kernel)
theorem e9_4 : (nI 9 = nI 4) = False := eq_false (by decide +kernel)
theorem e9_5 : (nI 9 = nI 5) = False := eq_false (by decide +kernel)
theorem e9_6 : (nI 9 = nI 6) = False := eq_false (by decide +kernel)
theorem e9_7 : (nI 9 = nI 7) = False := eq_false (by decide +kernel)
theorem e9_8 : (nI 9 = nI 8) = False := eq_false (by decide +kernel)
theorem e9_10 : (nI 9 = nI 10) = False := eq_false (by decide +kernel)
theorem e9_11 : (nI 9 = nI 11) = False := eq_false (by decide +kernel)
theorem e9_12 : (nI 9 = nI 12) = False := eq_false (by decide +kernel)
theorem e9_13 : (nI 9 = nI 13) = False := eq_false (by decide +kernel)
theorem e9_14 : (nI 9 = nI 14) = False := eq_false (by decide +kernel)
theorem e9_15 : (nI 9 = nI 15) = False := eq_false (by decide +kernel)
theorem e10_0 : (nI 10 = nI 0) = False := eq_false (by decide +kernel)
theorem e10_1 : (nI 10 = nI 1) = False := eq_false (by decide +kernel)
theorem e10_2 : (nI 10 = nI 2) = False := eq_false (by decide +kernel)
theorem e10_3 : (nI 10 = nI 3) = False := eq_false (by decide +kernel)
theorem e10_4 : (nI 10 = nI 4) = False := eq_false (by decide +kernel)
theorem e10_5 : (nI 10 = nI 5) = False := eq_false (by decide +kernel)
theorem e10_6 : (nI 10 = nI 6) = False := eq_false (by decide +kernel)
theorem e10_7 : (nI 10 = nI 7) = False := eq_false (by decide +kernel)
theorem e10_8 : (nI 10 = nI 8) = False := eq_false (by decide +kernel)
theorem e10_9 : (nI 10 = nI 9) = False := eq_false (by decide +kernel)
theorem e10_11 : (nI 10 = nI 11) = False := eq_false (by decide +kernel)
theorem e10_12 : (nI 10 = nI 12) = False := eq_false (by decide +kernel)
theorem e10_13 : (nI 10 = nI 13) = False := eq_false (by decide +kernel)
theorem e10_14 : (nI 10 = nI 14) = False := eq_false (by decide +kernel)
theorem e10_15 : (nI 10 = nI 15) = False := eq_false (by decide +kernel)
theorem e11_0 : (nI 11 = nI 0) = False := eq_false (by decide +kernel)
theorem e11_1 : (nI 11 = nI 1) = False := eq_false (by decide +kernel)
theorem e11_2 : (nI 11 = nI 2) = False := eq_false (by decide +kernel)
theorem e11_3 : (nI 11 = nI 3) = False := eq_false (by decide +kernel)
theorem e11_4 : (nI 11 = nI 4) = False := eq_false (by decide +kernel)
theorem e11_5 : (nI 11 = nI 5) = False := eq_false (by decide +kernel)
theorem e11_6 : (nI 11 = nI 6) = False := eq_false (by decide +kernel)
theorem e11_7 : (nI 11 = nI 7) = False := eq_false (by decide +kernel)
theorem e11_8 : (nI 11 = nI 8) = False := eq_false (by decide +kernel)
theorem e11_9 : (nI 11 = nI 9) = False := eq_false (by decide +kernel)
theorem e11_10 : (nI 11 = nI 10) = False := eq_false (by decide +kernel)
theorem e11_12 : (nI 11 = nI 12) = False := eq_false (by decide +kernel)
theorem e11_13 : (nI 11 = nI 13) = False := eq_false (by decide +kernel)
theorem e11_14 : (nI 11 = nI 14) = False := eq_false (by decide +kernel)
theorem e11_15 : (nI 11 = nI 15) = False := eq_false (by decide +kernel)
theorem e12_0 : (nI 12 = nI 0) = False := eq_false (by decide +kernel)
theorem e12_1 : (nI 12 = nI 1) = False := eq_false (by decide +kernel)
theorem e12_2 : (nI 12 = nI 2) = False := eq_false (by decide +kernel)
theorem e12_3 : (nI 12 = nI 3) = False := eq_false (by decide +kernel)
theorem e12_4 : (nI 12 = nI 4) = False := eq_false (by decide +kernel)
theorem e12_5 : (nI 12 = nI 5) = False := eq_false (by decide +kernel)
theorem e12_6 : (nI 12 = nI 6) = False := eq_false (by decide +kernel)
theorem e12_7 : (nI 12 = nI 7) = False := eq_false (by decide +kernel)
theorem e12_8 : (nI 12 = nI 8) = False := eq_false (by decide +kernel)
theorem e12_9 : (nI 12 = nI 9) = False := eq_false (by decide +kernel)
theorem e12_10 : (nI 12 = nI 10) = False := eq_false (by decide +kernel)
theorem e12_11 : (nI 12 = nI 11) = False := eq_false (by decide +kernel)
theorem e12_13 : (nI 12 = nI 13) = False := eq_false (by decide +kernel)
theorem e12_14 : (nI 12 = nI 14) = False := eq_false (by decide +kernel)
theorem e12_15 : (nI 12 = nI 15) = False := eq_false (by decide +kernel)
theorem e13_0 : (nI 13 = nI 0) = False := eq_false (by decide +kernel)
theorem e13_1 : (nI 13 = nI 1) = False := eq_false (by decide +kernel)
theorem e13_2 : (nI 13 = nI 2) = False := eq_false (by decide +kernel)
theorem e13_3 : (nI 13 = nI 3) = False := eq_false (by decide +kernel)
theorem e13_4 : (nI 13 = nI 4) = False := eq_false (by decide +kernel)
theorem e13_5 : (nI 13 = nI 5) = False := eq_false (by decide +kernel)
theorem e13_6 : (nI 13 = nI 6) = False := eq_false (by decide +kernel)
theorem e13_7 : (nI 13 = nI 7) = False := eq_false (by decide +kernel)
theorem e13_8 : (nI 13 = nI 8) = False := eq_false (by decide +kernel)
theorem e13_9 : (nI 13 = nI 9) = False := eq_false (by decide +kernel)
theorem e13_10 : (nI 13 = nI 10) = False := eq_false (by decide +kernel)
theorem e13_11 : (nI 13 = nI 11) = False := eq_false (by decide +kernel)
theorem e13_12 : (nI 13 = nI 12) = False := eq_false (by decide +kernel)
theorem e13_14 : (nI 13 = nI 14) = False := eq_false (by decide +kernel)
theorem e13_15 : (nI 13 = nI 15) = False := eq_false (by decide +kernel)
theorem e14_0 : (nI 14 = nI 0) = False := eq_false (by decide +kernel)
theorem e14_1 : (nI 14 = nI 1) = False := eq_false (by decide +kernel)
theorem e14_2 : (nI 14 = nI 2) = False := eq_false (by decide +kernel)
theorem e14_3 : (nI 14 = nI 3) = False := eq_false (by decide +kernel)
theorem e14_4 : (nI 14 = nI 4) = False := eq_false (by decide +kernel)
theorem e14_5 : (nI 14 = nI 5) = False := eq_false (by decide +kernel)
theorem e14_6 : (nI 14 = nI 6) = False := eq_false (by decide +kernel)
theorem e14_7 : (nI 14 = nI 7) = False := eq_false (by decide +kernel)
theorem e14_8 : (nI 14 = nI 8) = False := eq_false (by decide +kernel)
theorem e14_9 : (nI 14 = nI 9) = False := eq_false (by decide +kernel)
theorem e14_10 : (nI 14 = nI 10) = False := eq_false (by decide +kernel)
theorem e14_11 : (nI 14 = nI 11) = False := eq_false (by decide +kernel)
theorem e14_12 : (nI 14 = nI 12) = False := eq_false (by decide +kernel)
theorem e14_13 : (nI 14 = nI 13) = False := eq_false (by decide +kernel)
theorem e14_15 : (nI 14 = nI 15) = False := eq_false (by decide +kernel)
theorem e15_0 : (nI 15 = nI 0) = False := eq_false (by decide +kernel)
theorem e15_1 : (nI 15 = nI 1) = False := eq_false (by decide +kernel)
theorem e15_2 : (nI 15 = nI 2) = False := eq_false (by decide +kernel)
theorem e15_3 : (nI 15 = nI 3) = False := eq_false (by decide +kernel)
theorem e15_4 : (nI 15 = nI 4) = False := eq_false (by decide +kernel)
theorem e15_5 : (nI 15 = nI 5) = False := eq_false (by decide +kernel)
theorem e15_6 : (nI 15 = nI 6) = False := eq_false (by decide +kernel)
theorem e15_7 : (nI 15 = nI 7) = False := eq_false (by decide +kernel)
theorem e15_8 : (nI 15 = nI 8) = False := eq_false (by decide +kernel)
theorem e15_9 : (nI 15 = nI 9) = False := eq_false (by decide +kernel)
theorem e15_10 : (nI 15 = nI 10) = False := eq_false (by decide +kernel)
theorem e15_11 : (nI 15 = nI 11) = False := eq_false (by decide +kernel)
theorem e15_12 : (nI 15 = nI 12) = False := eq_false (by decide +kernel)
theorem e15_13 : (nI 15 = nI 13) = False := eq_false (by decide +kernel)
theorem e15_14 : (nI 15 = nI 14) = False := eq_false (by decide +kernel)
theorem ri0 : rin (nI 0) (nI 4) (nI 9) = false := by decide +kernel
theorem ri1 : rin (nI 1) (nI 4) (nI 9) = false := by decide +kernel
theorem ri2 : rin (nI 2) (nI 4) (nI 9) = false := by decide +kernel
theorem ri3 : rin (nI 3) (nI 4) (nI 9) = false := by decide +kernel
theorem ri4 : rin (nI 4) (nI 4) (nI 9) = true := by decide +kernel
theorem ri5 : rin (nI 5) (nI 4) (nI 9) = true := by decide +kernel
theorem ri6 : rin (nI 6) (nI 4) (nI 9) = true := by decide +kernel
theorem ri7 : rin (nI 7) (nI 4) (nI 9) = true := by decide +kernel
theorem ri8 : rin (nI 8) (nI 4) (nI 9) = true := by decide +kernel
theorem ri9 : rin (nI 9) (nI 4) (nI 9) = true := by decide +kernel
theorem ri10 : rin (nI 10) (nI 4) (nI 9) = false := by decide +kernel
theorem ri11 : rin (nI 11) (nI 4) (nI 9) = false := by decide +kernel
theorem ri12 : rin (nI 12) (nI 4) (nI 9) = false := by decide +kernel
theorem ri13 : rin (nI 13) (nI 4) (nI 9) = false := by decide +kernel
theorem ri14 : rin (nI 14) (nI 4) (nI 9) = false := by decide +kernel
theorem ri15 : rin (nI 15) (nI 4) (nI 9) = false := by decide +kernel
section MISC
variable {Sm : zSem} {us : List Wd} {sh : Kp} {w im : Wd} {rd : Rd} {t : Tw}
theorem Cp.setm (h : Cp Sm us sh w im rd t) {w' : Wd} {m' : Nat → Int32} (hw : RW w' m') (hI : Inv m') (hlaw : wd_law w' = wd_law w) (h1 : m' 1 = tw_m t 1) (h2 : m' 2 = tw_m t 2) (he : ∀ k, 304 ≤ k → k < 704 → m' k = tw_m t k) : Cp Sm us sh w' im rd (tw_s_m t m') := by
  obtain ⟨hW, hT, hf, hIm, hA, hlen, hrow⟩ := h
  refine ⟨⟨hw, hI, by rw [hlaw]; exact hW.2.2.congr h1 h2 he⟩, hT, hf, hIm, hA, hlen, fun j u hu => ?_⟩
  obtain ⟨a1, a2, a3, a4, a5⟩ := hrow j u hu
  exact ⟨a1, a2, a3.trans hlaw.symm, a4.trans h1.symm, a5.trans h2.symm⟩
theorem a_seed (h : Cp Sm us sh w im rd t) (p : Int32) : ∃ (r : Int32) (w' : Wd) (t6 : Tw), fX1_seed sh w p = some (r, w') ∧ fX6_seed t p = some (r, t6) ∧ Cp Sm us sh w' im rd t6 := by
  refine ⟨wd_seed w, wd_s_seed w p, tw_s_m (tw_s_thrown t 0) (upd (tw_m t) 15 p), rfl, ?_, (Cp.thrown h 0).setm (h.1.1.up_seed p) (h.1.2.1.upd 15 p fun n hn => by cases hn) rfl (upd_n (by omega)) (upd_n (by omega)) fun k a _ => upd_n (by omega)⟩
  rw [h.1.1.seed]
  rfl
theorem a_image (h : Cp Sm us sh w im rd t) : ∃ (sh' : Kp) (im' : Wd) (t6 : Tw), fX1_image sh w im = some (sh', im') ∧ fX6_image t = some t6 ∧ Cp Sm us sh' w im' rd t6 := by
  obtain ⟨o, ho⟩ : ∃ o, fX2_likens im w = some o := ⟨_, rfl⟩
  refine ⟨kp_s_hasImage sh true, o, _, ?_, x_image t, h.1, h.2.1, h.2.2.1, ⟨rfl, fun _ => ?_⟩, h.2.2.2.2⟩
  · unfold fX1_image
    rw [mlt_e, ho, mob_sm]
  · exact (h.1.likens ho).congr fun k hk => cpf_lo hk
theorem a_back (h : Cp Sm us sh w im rd t) : (∃ t6 : Tw, fX1_back sh w im = some (false, w) ∧ fX6_back t = some (false, t6) ∧ Cp Sm us sh w im rd t6) ∨ ∃ (w' : Wd) (t6 : Tw), fX1_back sh w im = some (true, w') ∧ fX6_back t = some (true, t6) ∧ Cp Sm [] sh w' im rd t6 := by
  unfold fX1_back
  rw [x_back, h.2.2.2.1.1]
  cases hh : tw_hasImage t
  · left
    rw [if_neg (by decide), if_neg (by decide)]
    exact ⟨_, rfl, rfl, h⟩
  · right
    obtain ⟨o, ho⟩ : ∃ o, fX2_likens w im = some o := ⟨_, rfl⟩
    rw [if_pos rfl, if_pos rfl, ho, mob_sm]
    refine ⟨o, _, rfl, rfl, ((h.2.2.2.1.2 hh).likens ho).congr fun k hk => cpf_lo hk, h.2.1, h.2.2.1, h.2.2.2.1, Ac.nil (Sm := Sm)⟩
theorem a_undo0 (h : Cp Sm [] sh w im rd t) : fX6_undo t = some (false, tw_s_thrown t (nI 0)) ∧ Cp Sm [] sh w im rd (tw_s_thrown t (nI 0)) := ⟨x_undo0 t h.2.2.2.2.1, h⟩
theorem a_undo1 {u : Wd} (h : Cp Sm (us ++ [u]) sh w im rd t) : ∃ t6 : Tw, fX6_undo t = some (true, t6) ∧ ∀ ow : Wd, fX2_likens w u = some ow → Cp Sm us sh ow im rd t6 := by
  obtain ⟨hW, hT, hf, hIm, hA, hlen, hrow⟩ := h
  rw [List.length_append, List.length_singleton] at hA hlen
  refine ⟨_, x_undoS t hA hlen, fun ow how => ?_⟩
  obtain ⟨a1, a2, a3, a4, a5⟩ := hrow us.length u (by rw [List.getElem?_append_right (Nat.le_refl _), Nat.sub_self]; rfl)
  obtain ⟨b1, b2⟩ := likens_ok w u how a1
  have e : ∀ k, k < 304 → cpf (tw_m t) 0 (fun k => tw_acts t (304 * us.length + k)) 304 k = aR (tw_acts t) us.length k := fun k hk => cpf_lo hk
  have e1 : cpf (tw_m t) 0 (fun k => tw_acts t (304 * us.length + k)) 304 1 = tw_m t 1 := (e 1 (by omega)).trans a4
  have e2 : cpf (tw_m t) 0 (fun k => tw_acts t (304 * us.length + k)) 304 2 = tw_m t 2 := (e 2 (by omega)).trans a5
  have hl : wd_law ow = wd_law w := b2.trans a3
  have e3 : ∀ k, 304 ≤ k → cpf (tw_m t) 0 (fun k => tw_acts t (304 * us.length + k)) 304 k = tw_m t k := fun k hk => cpf_out (by omega)
  refine ⟨⟨b1.congr e, a2.congr fun k hk => e k (by omega), by rw [hl]; exact hW.2.2.congr e1 e2 fun k a _ => e3 k a⟩, hT, hf, hIm, rfl, by omega, fun j z hz => ?_⟩
  have hj : j < us.length := (List.getElem?_eq_some_iff.mp hz).1
  obtain ⟨c1, c2, c3, c4, c5⟩ := hrow j z (by rw [List.getElem?_append_left hj]; exact hz)
  exact ⟨c1, c2, c3.trans hl.symm, c4.trans e1.symm, c5.trans e2.symm⟩
theorem rin_49 {p : Int32} (h : rin p (nI 4) (nI 9) = true) : ∃ j, 4 ≤ j ∧ j ≤ 9 ∧ p = nI j := by
  unfold rin at h
  simp only [Bool.and_eq_true, Bool.not_eq_true', decide_eq_false_iff_not] at h
  obtain ⟨j, hj, rfl⟩ := nI_of (x := p) (fun q => h.1 (Int32.lt_trans q (by decide)))
  exact ⟨j, Nat.le_of_not_lt fun q => h.1 ((nI_ltI hj (by omega)).mpr q), Nat.le_of_not_lt fun q => h.2 ((nI_ltI (by omega) hj).mpr q), rfl⟩
theorem a_count (hc : Cp Sm us sh w im rd t) (p : Int32) : ∃ r : Int32, fX1_count Sm us sh w p = some r ∧ fX6_count t p = some (r, tw_s_thrown t (nI 0)) := by
  have h := hc.1.1
  have hI := hc.1.2.1
  have hI' : Inv (tw_m (tw_s_thrown t (nI 0))) := hI
  unfold fX1_count fX6_count
  simp only [li0, li1, li2, li3, li4, li5, li6, li7, li8, li9, li10, li11, li12, li13, li14, li15, li16, li20, li24, li26, li30, li31, li32, li40, li41, li43, li48, li50, li52, li57, li59, li60, li62, li64, li65, li66, li67, li97, li99, li100, li122, li236, li239, li240, li255, li254, li256, li304, li400, li703, li704, li999, li1000000, li2000000000, li3344, li3648, li9999, li10000, li32767, lm1, mlt_e]
  rw [x_in, mob_sm]
  by_cases h0 : p = nI 0
  · subst h0
    simp only [e0_1, e0_2, e0_3, e0_4, e0_5, e0_6, e0_7, e0_8, e0_9, e0_10, e0_11, e0_12, e0_13, e0_14, e0_15, ri0, Bool.false_eq_true, if_false, if_true, twg_thrown_m]
    exact ⟨_, rfl, by rw [h.guests]⟩
  by_cases h1 : p = nI 1
  · subst h1
    simp only [e1_0, e1_2, e1_3, e1_4, e1_5, e1_6, e1_7, e1_8, e1_9, e1_10, e1_11, e1_12, e1_13, e1_14, e1_15, ri1, Bool.false_eq_true, if_false, if_true, twg_thrown_m]
    exact ⟨_, rfl, by rw [h.texts]⟩
  by_cases h2 : p = nI 2
  · subst h2
    simp only [e2_0, e2_1, e2_3, e2_4, e2_5, e2_6, e2_7, e2_8, e2_9, e2_10, e2_11, e2_12, e2_13, e2_14, e2_15, ri2, Bool.false_eq_true, if_false, if_true, twg_thrown_m]
    have hl := hc.1.2.2
    cases hq : wd_law w with
    | none =>
      rw [hq] at hl
      exact ⟨_, rfl, by rw [show tw_m t 1 = nM from hl]⟩
    | some q =>
      rw [hq] at hl
      obtain ⟨n, f, g1, g2, g3, g4⟩ := hl
      refine ⟨nI n, ?_, by rw [g3]⟩
      show mob (Sm q) _ = _
      rw [g1, mob_sm]
  by_cases h3 : p = nI 3
  · subst h3
    simp only [e3_0, e3_1, e3_2, e3_4, e3_5, e3_6, e3_7, e3_8, e3_9, e3_10, e3_11, e3_12, e3_13, e3_14, e3_15, ri3, Bool.false_eq_true, if_false, if_true, twg_thrown_m]
    exact ⟨_, rfl, by rw [h.day]⟩
  by_cases h4 : p = nI 4
  · subst h4
    simp only [e4_0, e4_1, e4_2, e4_3, e4_5, e4_6, e4_7, e4_8, e4_9, e4_10, e4_11, e4_12, e4_13, e4_14, e4_15, ri4, Bool.false_eq_true, if_false, if_true, twg_thrown_m]
    rw [nI_add, pk_sub (by omega), mckN _ (by omega) (by omega), clN (by omega)]
    exact ⟨_, rfl, by rw [h.bath]⟩
  by_cases h5 : p = nI 5
  · subst h5
    simp only [e5_0, e5_1, e5_2, e5_3, e5_4, e5_6, e5_7, e5_8, e5_9, e5_10, e5_11, e5_12, e5_13, e5_14, e5_15, ri5, Bool.false_eq_true, if_false, if_true, twg_thrown_m]
    rw [nI_add, pk_sub (by omega), mckN _ (by omega) (by omega), clN (by omega)]
    exact ⟨_, rfl, by rw [h.kept]⟩
  by_cases h6 : p = nI 6
  · subst h6
    simp only [e6_0, e6_1, e6_2, e6_3, e6_4, e6_5, e6_7, e6_8, e6_9, e6_10, e6_11, e6_12, e6_13, e6_14, e6_15, ri6, Bool.false_eq_true, if_false, if_true, twg_thrown_m]
    rw [nI_add, pk_sub (by omega), mckN _ (by omega) (by omega), clN (by omega)]
    exact ⟨_, rfl, by rw [h.masons]⟩
  by_cases h7 : p = nI 7
  · subst h7
    simp only [e7_0, e7_1, e7_2, e7_3, e7_4, e7_5, e7_6, e7_8, e7_9, e7_10, e7_11, e7_12, e7_13, e7_14, e7_15, ri7, Bool.false_eq_true, if_false, if_true, twg_thrown_m]
    rw [nI_add, pk_sub (by omega), mckN _ (by omega) (by omega), clN (by omega)]
    exact ⟨_, rfl, by rw [h.stones]⟩
  by_cases h8 : p = nI 8
  · subst h8
    simp only [e8_0, e8_1, e8_2, e8_3, e8_4, e8_5, e8_6, e8_7, e8_9, e8_10, e8_11, e8_12, e8_13, e8_14, e8_15, ri8, Bool.false_eq_true, if_false, if_true, twg_thrown_m]
    rw [nI_add, pk_sub (by omega), mckN _ (by omega) (by omega), clN (by omega)]
    exact ⟨_, rfl, by rw [h.towers]⟩
  by_cases h9 : p = nI 9
  · subst h9
    simp only [e9_0, e9_1, e9_2, e9_3, e9_4, e9_5, e9_6, e9_7, e9_8, e9_10, e9_11, e9_12, e9_13, e9_14, e9_15, ri9, Bool.false_eq_true, if_false, if_true, twg_thrown_m]
    rw [nI_add, pk_sub (by omega), mckN _ (by omega) (by omega), clN (by omega)]
    exact ⟨_, rfl, by rw [h.bore]⟩
  by_cases h10 : p = nI 10
  · subst h10
    simp only [e10_0, e10_1, e10_2, e10_3, e10_4, e10_5, e10_6, e10_7, e10_8, e10_9, e10_11, e10_12, e10_13, e10_14, e10_15, ri10, Bool.false_eq_true, if_false, if_true, twg_thrown_m]
    exact ⟨_, rfl, by rw [h.seen]⟩
  by_cases h11 : p = nI 11
  · subst h11
    simp only [e11_0, e11_1, e11_2, e11_3, e11_4, e11_5, e11_6, e11_7, e11_8, e11_9, e11_10, e11_12, e11_13, e11_14, e11_15, ri11, Bool.false_eq_true, if_false, if_true, twg_thrown_m, twg_thrown_acted]
    rw [c_allHoles h hI, x_holes, mob_sm, mob_sm]
    exact ⟨_, rfl, rfl⟩
  by_cases h12 : p = nI 12
  · subst h12
    simp only [e12_0, e12_1, e12_2, e12_3, e12_4, e12_5, e12_6, e12_7, e12_8, e12_9, e12_10, e12_11, e12_13, e12_14, e12_15, ri12, Bool.false_eq_true, if_false, if_true, twg_thrown_m, twg_thrown_acted]
    rw [c_hereOnes h hI, x_hereOnes _ hI', mob_sm, mob_sm]
    exact ⟨_, rfl, rfl⟩
  by_cases h13 : p = nI 13
  · subst h13
    simp only [e13_0, e13_1, e13_2, e13_3, e13_4, e13_5, e13_6, e13_7, e13_8, e13_9, e13_10, e13_11, e13_12, e13_14, e13_15, ri13, Bool.false_eq_true, if_false, if_true, twg_thrown_m, twg_thrown_acted]
    rw [c_doubtOfAll h hI, x_doubts _ hI', mob_sm, mob_sm]
    exact ⟨_, rfl, rfl⟩
  by_cases h14 : p = nI 14
  · subst h14
    simp only [e14_0, e14_1, e14_2, e14_3, e14_4, e14_5, e14_6, e14_7, e14_8, e14_9, e14_10, e14_11, e14_12, e14_13, e14_15, ri14, Bool.false_eq_true, if_false, if_true, twg_thrown_m]
    exact ⟨_, rfl, by rw [h.logged]⟩
  by_cases h15 : p = nI 15
  · subst h15
    simp only [e15_0, e15_1, e15_2, e15_3, e15_4, e15_5, e15_6, e15_7, e15_8, e15_9, e15_10, e15_11, e15_12, e15_13, e15_14, ri15, Bool.false_eq_true, if_false, if_true, twg_thrown_m, twg_thrown_acted]
    exact ⟨_, rfl, by rw [hc.2.2.2.2.1]⟩
  have hr : rin p (nI 4) (nI 9) = false := by
    cases hr : rin p (nI 4) (nI 9)
    · rfl
    · obtain ⟨j, a, b, rfl⟩ := rin_49 hr
      have : j = 4 ∨ j = 5 ∨ j = 6 ∨ j = 7 ∨ j = 8 ∨ j = 9 := by omega
      rcases this with q | q | q | q | q | q <;> subst q <;> contradiction
  simp only [hr, h0, h1, h2, h3, h4, h5, h6, h7, h8, h9, h10, h11, h12, h13, h14, h15, Bool.false_eq_true, if_false]
  exact ⟨_, rfl, rfl⟩
end MISC
