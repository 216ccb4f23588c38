/-! field links, call places, callees (printed by gen/mklk.py) -/
section LK
variable {g : GB}
theorem gf_J1_7_J3 : GF RJ1 7 17 0 false true (tyJ3 0) := gf_of cf_J3 (by decide) (lk_own (t := TJ3 0) q248) rfl rfl (fun _ => rfl)
theorem gf_J1_7_J26 : GF RJ1 7 29 0 false true (tyJ26 0) := gf_of cf_J26 (by decide) (lk_own (t := TJ26 0) q248) rfl rfl (fun _ => rfl)
theorem gf_J20_7_J20 : GF RJ20 7 27 0 false true (tyJ20 0) := gf_of cf_J20 (by decide) (lk_own (t := TJ20 0) q923) rfl rfl (fun _ => rfl)
theorem gf_J20_13_J20 : GF RJ20 13 27 1 false true (tyJ20 1) := gf_of cf_J20 (by decide) (lk_own (t := TJ20 1) q926) rfl rfl (fun _ => rfl)
theorem gf_J20_17_J20 : GF RJ20 17 27 2 false true (tyJ20 2) := gf_of cf_J20 (by decide) (lk_own (t := TJ20 2) q929) rfl rfl (fun _ => rfl)
theorem gf_J26_63_J3 : GF RJ26 63 17 0 false false (tyJ3 0) := gf_of cf_J3 (by decide) (lk_same (t := TJ3 0) q255 q252) rfl rfl (fun q => by cases q)
theorem gf_J26_63_J26 : GF RJ26 63 29 0 false false (tyJ26 0) := gf_of cf_J26 (by decide) (lk_same (t := TJ26 0) q255 q252) rfl rfl (fun q => by cases q)
theorem gf_J26_9_J26 : GF RJ26 9 29 1 false true (tyJ26 1) := gf_of cf_J26 (by decide) (lk_own (t := TJ26 1) q1622) rfl rfl (fun _ => rfl)
theorem gf_J26_48_J26 : GF RJ26 48 29 2 false true (tyJ26 2) := gf_of cf_J26 (by decide) (lk_own (t := TJ26 2) q1625) rfl rfl (fun _ => rfl)
theorem gf_J28_205_J28 : GF RJ28 205 30 0 true true (tyJ28 0) := gf_of cf_J28 (by decide) (lk_own (t := TJ28 0) q1754) rfl rfl (fun _ => rfl)
theorem gf_J3_7_J3 : GF RJ3 7 17 1 false true (tyJ3 1) := gf_of cf_J3 (by decide) (lk_own (t := TJ3 1) q244) rfl rfl (fun _ => rfl)
theorem gf_J3_18_J3 : GF RJ3 18 17 2 false true (tyJ3 2) := gf_of cf_J3 (by decide) (lk_own (t := TJ3 2) q246) rfl rfl (fun _ => rfl)
theorem gf_J3_27_J3 : GF RJ3 27 17 3 false true (tyJ3 3) := gf_of cf_J3 (by decide) (lk_own (t := TJ3 3) q247) rfl rfl (fun _ => rfl)
theorem gf_J3_33_J3 : GF RJ3 33 17 0 false false (tyJ3 0) := gf_of cf_J3 (by decide) (lk_same (t := TJ3 0) q254 q250) rfl rfl (fun q => by cases q)
theorem gf_J3_33_J26 : GF RJ3 33 29 0 false false (tyJ26 0) := gf_of cf_J26 (by decide) (lk_same (t := TJ26 0) q254 q250) rfl rfl (fun q => by cases q)
theorem gf_J3_39_J20 : GF RJ3 39 27 0 false false (tyJ20 0) := gf_of cf_J20 (by decide) (lk_own (t := TJ20 0) q925) rfl rfl (fun q => by cases q)
theorem gf_J3_36_J20 : GF RJ3 36 27 1 false false (tyJ20 1) := gf_of cf_J20 (by decide) (lk_own (t := TJ20 1) q928) rfl rfl (fun q => by cases q)
theorem gf_J3_30_J20 : GF RJ3 30 27 2 false false (tyJ20 2) := gf_of cf_J20 (by decide) (lk_own (t := TJ20 2) q930) rfl rfl (fun q => by cases q)
theorem gf_J30_17_J3 : GF RJ30 17 17 0 false false (tyJ3 0) := gf_of cf_J3 (by decide) (lk_same (t := TJ3 0) q251 q252) rfl rfl (fun q => by cases q)
theorem gf_J30_17_J26 : GF RJ30 17 29 0 false false (tyJ26 0) := gf_of cf_J26 (by decide) (lk_same (t := TJ26 0) q251 q252) rfl rfl (fun q => by cases q)
theorem gf_J30_25_J30 : GF RJ30 25 31 0 false true (tyJ30 0) := gf_of cf_J30 (by decide) (lk_own (t := TJ30 0) q696) rfl rfl (fun _ => rfl)
theorem gf_J30_13_J30 : GF RJ30 13 31 1 false true (tyJ30 1) := gf_of cf_J30 (by decide) (lk_own (t := TJ30 1) q697) rfl rfl (fun _ => rfl)
theorem gf_J30_22_J30 : GF RJ30 22 31 2 false true (tyJ30 2) := gf_of cf_J30 (by decide) (lk_own (t := TJ30 2) q698) rfl rfl (fun _ => rfl)
theorem gf_J30_1_J30 : GF RJ30 1 31 3 true true (tyJ30 3) := gf_of cf_J30 (by decide) (lk_own (t := TJ30 3) q699) rfl rfl (fun _ => rfl)
theorem gf_J30_37_J26 : GF RJ30 37 29 1 false false (tyJ26 1) := gf_of cf_J26 (by decide) (lk_own (t := TJ26 1) q1623) rfl rfl (fun q => by cases q)
theorem gf_J32_20_J3 : GF RJ32 20 17 0 false false (tyJ3 0) := gf_of cf_J3 (by decide) (lk_own (t := TJ3 0) q253) rfl rfl (fun q => by cases q)
theorem gf_J32_20_J26 : GF RJ32 20 29 0 false false (tyJ26 0) := gf_of cf_J26 (by decide) (lk_own (t := TJ26 0) q253) rfl rfl (fun q => by cases q)
theorem gf_J33_13_J30 : GF RJ33 13 31 0 false false (tyJ30 0) := gf_of cf_J30 (by decide) (lk_same (t := TJ30 0) q694 q695) rfl rfl (fun q => by cases q)
theorem gf_J34_22_J3 : GF RJ34 22 17 1 false false (tyJ3 1) := gf_of cf_J3 (by decide) (lk_own (t := TJ3 1) q245) rfl rfl (fun q => by cases q)
theorem gf_J34_13_J3 : GF RJ34 13 17 0 false false (tyJ3 0) := gf_of cf_J3 (by decide) (lk_same (t := TJ3 0) q249 q250) rfl rfl (fun q => by cases q)
theorem gf_J34_13_J26 : GF RJ34 13 29 0 false false (tyJ26 0) := gf_of cf_J26 (by decide) (lk_same (t := TJ26 0) q249 q250) rfl rfl (fun q => by cases q)
theorem gf_J34_46_J34 : GF RJ34 46 34 0 false true (tyJ34 0) := gf_of cf_J34 (by decide) (lk_own (t := TJ34 0) q745) rfl rfl (fun _ => rfl)
theorem gf_J34_29_J34 : GF RJ34 29 34 1 false true (tyJ34 1) := gf_of cf_J34 (by decide) (lk_own (t := TJ34 1) q746) rfl rfl (fun _ => rfl)
theorem gf_J34_33_J34 : GF RJ34 33 34 2 false true (tyJ34 2) := gf_of cf_J34 (by decide) (lk_own (t := TJ34 2) q747) rfl rfl (fun _ => rfl)
theorem gf_J34_19_J34 : GF RJ34 19 34 3 false true (tyJ34 3) := gf_of cf_J34 (by decide) (lk_own (t := TJ34 3) q748) rfl rfl (fun _ => rfl)
theorem gf_J34_1_J34 : GF RJ34 1 34 4 true true (tyJ34 4) := gf_of cf_J34 (by decide) (lk_own (t := TJ34 4) q749) rfl rfl (fun _ => rfl)
theorem gf_J34_52_J20 : GF RJ34 52 27 0 false false (tyJ20 0) := gf_of cf_J20 (by decide) (lk_own (t := TJ20 0) q924) rfl rfl (fun q => by cases q)
theorem gf_J34_49_J20 : GF RJ34 49 27 1 false false (tyJ20 1) := gf_of cf_J20 (by decide) (lk_own (t := TJ20 1) q927) rfl rfl (fun q => by cases q)
theorem gf_J4_3_J4 : GF RJ4 3 18 0 false true (tyJ4 0) := gf_of cf_J4 (by decide) (lk_own (t := TJ4 0) q273) rfl rfl (fun _ => rfl)
theorem gf_J4_24_J4 : GF RJ4 24 18 1 false true (tyJ4 1) := gf_of cf_J4 (by decide) (lk_own (t := TJ4 1) q274) rfl rfl (fun _ => rfl)
theorem gf_J4_20_J4 : GF RJ4 20 18 2 false true (tyJ4 2) := gf_of cf_J4 (by decide) (lk_own (t := TJ4 2) q275) rfl rfl (fun _ => rfl)
theorem gf_J5_15_J6 : GF RJ5 15 19 0 false true (tyJ6 0) := gf_of cf_J6 (by decide) (lk_own (t := TJ6 0) q301) rfl rfl (fun _ => rfl)
theorem gf_J5_22_J6 : GF RJ5 22 19 1 false true (tyJ6 1) := gf_of cf_J6 (by decide) (lk_own (t := TJ6 1) q302) rfl rfl (fun _ => rfl)
theorem gf_J5_79_J6 : GF RJ5 79 19 3 false true (tyJ6 3) := gf_of cf_J6 (by decide) (lk_own (t := TJ6 3) q304) rfl rfl (fun _ => rfl)
theorem gf_J7_1048_J6 : GF RJ7 1048 19 2 false false (tyJ6 2) := gf_of cf_J6 (by decide) (lk_own (t := TJ6 2) q303) rfl rfl (fun q => by cases q)
theorem gf_J7_9_J7 : GF RJ7 9 20 0 true true (tyJ7 0) := gf_of cf_J7 (by decide) (lk_own (t := TJ7 0) q667) rfl rfl (fun _ => rfl)
theorem gf_J7_15_J7 : GF RJ7 15 20 1 true true (tyJ7 1) := gf_of cf_J7 (by decide) (lk_own (t := TJ7 1) q668) rfl rfl (fun _ => rfl)
theorem gf_J9_198_X7 : GF RJ9 198 6 4 false true (tyX7 4) := gf_of cf_X7 (by decide) (lk_own (t := TX7 4) q399) rfl rfl (fun _ => rfl)
theorem gf_J9_198_X17 : GF RJ9 198 13 4 false true (tyX17 4) := gf_of cf_X17 (by decide) (lk_own (t := TX17 4) q399) rfl rfl (fun _ => rfl)
theorem gf_J9_198_J9 : GF RJ9 198 21 4 false true (tyJ9 4) := gf_of cf_J9 (by decide) (lk_own (t := TJ9 4) q399) rfl rfl (fun _ => rfl)
theorem gf_J9_198_J12 : GF RJ9 198 22 4 false true (tyJ12 4) := gf_of cf_J12 (by decide) (lk_own (t := TJ12 4) q399) rfl rfl (fun _ => rfl)
theorem gf_J9_198_J13 : GF RJ9 198 23 4 false true (tyJ13 4) := gf_of cf_J13 (by decide) (lk_own (t := TJ13 4) q399) rfl rfl (fun _ => rfl)
theorem gf_J9_198_J14 : GF RJ9 198 24 0 false true (tyJ14 0) := gf_of cf_J14 (by decide) (lk_own (t := TJ14 0) q399) rfl rfl (fun _ => rfl)
theorem gf_J9_198_J16 : GF RJ9 198 25 4 false true (tyJ16 4) := gf_of cf_J16 (by decide) (lk_own (t := TJ16 4) q399) rfl rfl (fun _ => rfl)
theorem gf_J9_198_J17 : GF RJ9 198 26 4 false true (tyJ17 4) := gf_of cf_J17 (by decide) (lk_own (t := TJ17 4) q399) rfl rfl (fun _ => rfl)
theorem gf_J9_198_J24 : GF RJ9 198 28 4 false true (tyJ24 4) := gf_of cf_J24 (by decide) (lk_own (t := TJ24 4) q399) rfl rfl (fun _ => rfl)
theorem gf_J9_198_J31 : GF RJ9 198 32 0 false true (tyJ31 0) := gf_of cf_J31 (by decide) (lk_own (t := TJ31 0) q399) rfl rfl (fun _ => rfl)
theorem gf_J9_31_X7 : GF RJ9 31 6 3 false true (tyX7 3) := gf_of cf_X7 (by decide) (lk_own (t := TX7 3) q642) rfl rfl (fun _ => rfl)
theorem gf_J9_31_X17 : GF RJ9 31 13 3 false true (tyX17 3) := gf_of cf_X17 (by decide) (lk_own (t := TX17 3) q642) rfl rfl (fun _ => rfl)
theorem gf_J9_31_J9 : GF RJ9 31 21 3 false true (tyJ9 3) := gf_of cf_J9 (by decide) (lk_own (t := TJ9 3) q642) rfl rfl (fun _ => rfl)
theorem gf_J9_31_J12 : GF RJ9 31 22 3 false true (tyJ12 3) := gf_of cf_J12 (by decide) (lk_own (t := TJ12 3) q642) rfl rfl (fun _ => rfl)
theorem gf_J9_31_J13 : GF RJ9 31 23 3 false true (tyJ13 3) := gf_of cf_J13 (by decide) (lk_own (t := TJ13 3) q642) rfl rfl (fun _ => rfl)
theorem gf_J9_31_J14 : GF RJ9 31 24 1 false true (tyJ14 1) := gf_of cf_J14 (by decide) (lk_own (t := TJ14 1) q642) rfl rfl (fun _ => rfl)
theorem gf_J9_31_J16 : GF RJ9 31 25 3 false true (tyJ16 3) := gf_of cf_J16 (by decide) (lk_own (t := TJ16 3) q642) rfl rfl (fun _ => rfl)
theorem gf_J9_31_J17 : GF RJ9 31 26 3 false true (tyJ17 3) := gf_of cf_J17 (by decide) (lk_own (t := TJ17 3) q642) rfl rfl (fun _ => rfl)
theorem gf_J9_31_J24 : GF RJ9 31 28 3 false true (tyJ24 3) := gf_of cf_J24 (by decide) (lk_own (t := TJ24 3) q642) rfl rfl (fun _ => rfl)
theorem gf_J9_31_J31 : GF RJ9 31 32 1 false true (tyJ31 1) := gf_of cf_J31 (by decide) (lk_own (t := TJ31 1) q642) rfl rfl (fun _ => rfl)
theorem gf_J9_7_X7 : GF RJ9 7 6 0 false true (tyX7 0) := gf_of cf_X7 (by decide) (lk_own (t := TX7 0) q643) rfl rfl (fun _ => rfl)
theorem gf_J9_7_X17 : GF RJ9 7 13 0 false true (tyX17 0) := gf_of cf_X17 (by decide) (lk_own (t := TX17 0) q643) rfl rfl (fun _ => rfl)
theorem gf_J9_7_J9 : GF RJ9 7 21 0 false true (tyJ9 0) := gf_of cf_J9 (by decide) (lk_own (t := TJ9 0) q643) rfl rfl (fun _ => rfl)
theorem gf_J9_7_J12 : GF RJ9 7 22 0 false true (tyJ12 0) := gf_of cf_J12 (by decide) (lk_own (t := TJ12 0) q643) rfl rfl (fun _ => rfl)
theorem gf_J9_7_J13 : GF RJ9 7 23 0 false true (tyJ13 0) := gf_of cf_J13 (by decide) (lk_own (t := TJ13 0) q643) rfl rfl (fun _ => rfl)
theorem gf_J9_7_J14 : GF RJ9 7 24 2 false true (tyJ14 2) := gf_of cf_J14 (by decide) (lk_own (t := TJ14 2) q643) rfl rfl (fun _ => rfl)
theorem gf_J9_7_J16 : GF RJ9 7 25 0 false true (tyJ16 0) := gf_of cf_J16 (by decide) (lk_own (t := TJ16 0) q643) rfl rfl (fun _ => rfl)
theorem gf_J9_7_J17 : GF RJ9 7 26 0 false true (tyJ17 0) := gf_of cf_J17 (by decide) (lk_own (t := TJ17 0) q643) rfl rfl (fun _ => rfl)
theorem gf_J9_7_J24 : GF RJ9 7 28 0 false true (tyJ24 0) := gf_of cf_J24 (by decide) (lk_own (t := TJ24 0) q643) rfl rfl (fun _ => rfl)
theorem gf_J9_7_J31 : GF RJ9 7 32 2 false true (tyJ31 2) := gf_of cf_J31 (by decide) (lk_own (t := TJ31 2) q643) rfl rfl (fun _ => rfl)
theorem gf_J9_17_X7 : GF RJ9 17 6 1 false true (tyX7 1) := gf_of cf_X7 (by decide) (lk_own (t := TX7 1) q644) rfl rfl (fun _ => rfl)
theorem gf_J9_17_X17 : GF RJ9 17 13 1 false true (tyX17 1) := gf_of cf_X17 (by decide) (lk_own (t := TX17 1) q644) rfl rfl (fun _ => rfl)
theorem gf_J9_17_J9 : GF RJ9 17 21 1 false true (tyJ9 1) := gf_of cf_J9 (by decide) (lk_own (t := TJ9 1) q644) rfl rfl (fun _ => rfl)
theorem gf_J9_17_J12 : GF RJ9 17 22 1 false true (tyJ12 1) := gf_of cf_J12 (by decide) (lk_own (t := TJ12 1) q644) rfl rfl (fun _ => rfl)
theorem gf_J9_17_J13 : GF RJ9 17 23 1 false true (tyJ13 1) := gf_of cf_J13 (by decide) (lk_own (t := TJ13 1) q644) rfl rfl (fun _ => rfl)
theorem gf_J9_17_J14 : GF RJ9 17 24 3 false true (tyJ14 3) := gf_of cf_J14 (by decide) (lk_own (t := TJ14 3) q644) rfl rfl (fun _ => rfl)
theorem gf_J9_17_J16 : GF RJ9 17 25 1 false true (tyJ16 1) := gf_of cf_J16 (by decide) (lk_own (t := TJ16 1) q644) rfl rfl (fun _ => rfl)
theorem gf_J9_17_J17 : GF RJ9 17 26 1 false true (tyJ17 1) := gf_of cf_J17 (by decide) (lk_own (t := TJ17 1) q644) rfl rfl (fun _ => rfl)
theorem gf_J9_17_J24 : GF RJ9 17 28 1 false true (tyJ24 1) := gf_of cf_J24 (by decide) (lk_own (t := TJ24 1) q644) rfl rfl (fun _ => rfl)
theorem gf_J9_17_J31 : GF RJ9 17 32 3 false true (tyJ31 3) := gf_of cf_J31 (by decide) (lk_own (t := TJ31 3) q644) rfl rfl (fun _ => rfl)
theorem gf_J9_24_X7 : GF RJ9 24 6 2 false true (tyX7 2) := gf_of cf_X7 (by decide) (lk_own (t := TX7 2) q645) rfl rfl (fun _ => rfl)
theorem gf_J9_24_X17 : GF RJ9 24 13 2 false true (tyX17 2) := gf_of cf_X17 (by decide) (lk_own (t := TX17 2) q645) rfl rfl (fun _ => rfl)
theorem gf_J9_24_J9 : GF RJ9 24 21 2 false true (tyJ9 2) := gf_of cf_J9 (by decide) (lk_own (t := TJ9 2) q645) rfl rfl (fun _ => rfl)
theorem gf_J9_24_J12 : GF RJ9 24 22 2 false true (tyJ12 2) := gf_of cf_J12 (by decide) (lk_own (t := TJ12 2) q645) rfl rfl (fun _ => rfl)
theorem gf_J9_24_J13 : GF RJ9 24 23 2 false true (tyJ13 2) := gf_of cf_J13 (by decide) (lk_own (t := TJ13 2) q645) rfl rfl (fun _ => rfl)
theorem gf_J9_24_J14 : GF RJ9 24 24 5 false true (tyJ14 5) := gf_of cf_J14 (by decide) (lk_own (t := TJ14 5) q645) rfl rfl (fun _ => rfl)
theorem gf_J9_24_J16 : GF RJ9 24 25 2 false true (tyJ16 2) := gf_of cf_J16 (by decide) (lk_own (t := TJ16 2) q645) rfl rfl (fun _ => rfl)
theorem gf_J9_24_J17 : GF RJ9 24 26 2 false true (tyJ17 2) := gf_of cf_J17 (by decide) (lk_own (t := TJ17 2) q645) rfl rfl (fun _ => rfl)
theorem gf_J9_24_J24 : GF RJ9 24 28 2 false true (tyJ24 2) := gf_of cf_J24 (by decide) (lk_own (t := TJ24 2) q645) rfl rfl (fun _ => rfl)
theorem gf_J9_24_J31 : GF RJ9 24 32 5 false true (tyJ31 5) := gf_of cf_J31 (by decide) (lk_own (t := TJ31 5) q645) rfl rfl (fun _ => rfl)
theorem gf_X1_37_X1 : GF RX1 37 0 0 false true (tyX1 0) := gf_of cf_X1 (by decide) (lk_own (t := TX1 0) q316) rfl rfl (fun _ => rfl)
theorem gf_X1_44_X1 : GF RX1 44 0 1 false true (tyX1 1) := gf_of cf_X1 (by decide) (lk_own (t := TX1 1) q317) rfl rfl (fun _ => rfl)
theorem gf_X1_51_X1 : GF RX1 51 0 2 true true (tyX1 2) := gf_of cf_X1 (by decide) (lk_own (t := TX1 2) q318) rfl rfl (fun _ => rfl)
theorem gf_X1_389_X1 : GF RX1 389 0 3 false true (tyX1 3) := gf_of cf_X1 (by decide) (lk_own (t := TX1 3) q319) rfl rfl (fun _ => rfl)
theorem gf_X1_395_X1 : GF RX1 395 0 4 false true (tyX1 4) := gf_of cf_X1 (by decide) (lk_own (t := TX1 4) q320) rfl rfl (fun _ => rfl)
theorem gf_X1_58_X1 : GF RX1 58 0 5 false true (tyX1 5) := gf_of cf_X1 (by decide) (lk_own (t := TX1 5) q321) rfl rfl (fun _ => rfl)
theorem gf_X1_64_X1 : GF RX1 64 0 6 false true (tyX1 6) := gf_of cf_X1 (by decide) (lk_own (t := TX1 6) q322) rfl rfl (fun _ => rfl)
theorem gf_X1_199_X1 : GF RX1 199 0 7 false true (tyX1 7) := gf_of cf_X1 (by decide) (lk_own (t := TX1 7) q323) rfl rfl (fun _ => rfl)
theorem gf_X1_68_X1 : GF RX1 68 0 8 false true (tyX1 8) := gf_of cf_X1 (by decide) (lk_own (t := TX1 8) q324) rfl rfl (fun _ => rfl)
theorem gf_X1_16_X1 : GF RX1 16 0 9 false true (tyX1 9) := gf_of cf_X1 (by decide) (lk_own (t := TX1 9) q325) rfl rfl (fun _ => rfl)
theorem gf_X1_231_X10 : GF RX1 231 7 0 true false (tyX10 0) := gf_of cf_X10 (by decide) (lk_same (t := TX10 0) q1931 q1926) rfl rfl (fun q => by cases q)
theorem gf_X1_231_X14 : GF RX1 231 10 0 true false (tyX14 0) := gf_of cf_X14 (by decide) (lk_same (t := TX14 0) q1931 q1926) rfl rfl (fun q => by cases q)
theorem gf_X1_231_X15 : GF RX1 231 11 0 true false (tyX15 0) := gf_of cf_X15 (by decide) (lk_same (t := TX15 0) q1931 q1926) rfl rfl (fun q => by cases q)
theorem gf_X1_242_X10 : GF RX1 242 7 0 true false (tyX10 0) := gf_of cf_X10 (by decide) (lk_same (t := TX10 0) q1932 q1928) rfl rfl (fun q => by cases q)
theorem gf_X1_242_X14 : GF RX1 242 10 0 true false (tyX14 0) := gf_of cf_X14 (by decide) (lk_same (t := TX14 0) q1932 q1928) rfl rfl (fun q => by cases q)
theorem gf_X1_242_X15 : GF RX1 242 11 0 true false (tyX15 0) := gf_of cf_X15 (by decide) (lk_same (t := TX15 0) q1932 q1928) rfl rfl (fun q => by cases q)
theorem gf_X10_20_X10 : GF RX10 20 7 0 true false (tyX10 0) := gf_of cf_X10 (by decide) (lk_same (t := TX10 0) q1929 q1930) rfl rfl (fun q => by cases q)
theorem gf_X10_20_X14 : GF RX10 20 10 0 true false (tyX14 0) := gf_of cf_X14 (by decide) (lk_same (t := TX14 0) q1929 q1930) rfl rfl (fun q => by cases q)
theorem gf_X10_20_X15 : GF RX10 20 11 0 true false (tyX15 0) := gf_of cf_X15 (by decide) (lk_same (t := TX15 0) q1929 q1930) rfl rfl (fun q => by cases q)
theorem gf_X10_7_X10 : GF RX10 7 7 1 true true (tyX10 1) := gf_of cf_X10 (by decide) (lk_own (t := TX10 1) q1948) rfl rfl (fun _ => rfl)
theorem gf_X13_9_X13 : GF RX13 9 9 0 true true (tyX13 0) := gf_of cf_X13 (by decide) (lk_own (t := TX13 0) q1901) rfl rfl (fun _ => rfl)
theorem gf_X13_19_X13 : GF RX13 19 9 1 true true (tyX13 1) := gf_of cf_X13 (by decide) (lk_own (t := TX13 1) q1902) rfl rfl (fun _ => rfl)
theorem gf_X13_15_X13 : GF RX13 15 9 2 true true (tyX13 2) := gf_of cf_X13 (by decide) (lk_own (t := TX13 2) q1903) rfl rfl (fun _ => rfl)
theorem gf_X14_9_X10 : GF RX14 9 7 0 true false (tyX10 0) := gf_of cf_X10 (by decide) (lk_same (t := TX10 0) q1925 q1926) rfl rfl (fun q => by cases q)
theorem gf_X14_9_X14 : GF RX14 9 10 0 true false (tyX14 0) := gf_of cf_X14 (by decide) (lk_same (t := TX14 0) q1925 q1926) rfl rfl (fun q => by cases q)
theorem gf_X14_9_X15 : GF RX14 9 11 0 true false (tyX15 0) := gf_of cf_X15 (by decide) (lk_same (t := TX15 0) q1925 q1926) rfl rfl (fun q => by cases q)
theorem gf_X15_9_X10 : GF RX15 9 7 0 true false (tyX10 0) := gf_of cf_X10 (by decide) (lk_same (t := TX10 0) q1927 q1928) rfl rfl (fun q => by cases q)
theorem gf_X15_9_X14 : GF RX15 9 10 0 true false (tyX14 0) := gf_of cf_X14 (by decide) (lk_same (t := TX14 0) q1927 q1928) rfl rfl (fun q => by cases q)
theorem gf_X15_9_X15 : GF RX15 9 11 0 true false (tyX15 0) := gf_of cf_X15 (by decide) (lk_same (t := TX15 0) q1927 q1928) rfl rfl (fun q => by cases q)
theorem gf_X16_9_X16 : GF RX16 9 12 0 true true (tyX16 0) := gf_of cf_X16 (by decide) (lk_own (t := TX16 0) q1960) rfl rfl (fun _ => rfl)
theorem gf_X16_15_X16 : GF RX16 15 12 1 true true (tyX16 1) := gf_of cf_X16 (by decide) (lk_own (t := TX16 1) q1962) rfl rfl (fun _ => rfl)
theorem gf_X17_7_X17 : GF RX17 7 13 6 true true (tyX17 6) := gf_of cf_X17 (by decide) (lk_own (t := TX17 6) q2004) rfl rfl (fun _ => rfl)
theorem gf_X17_13_X17 : GF RX17 13 13 7 true true (tyX17 7) := gf_of cf_X17 (by decide) (lk_own (t := TX17 7) q2006) rfl rfl (fun _ => rfl)
theorem gf_X18_7_X18 : GF RX18 7 14 0 true true (tyX18 0) := gf_of cf_X18 (by decide) (lk_own (t := TX18 0) q2227) rfl rfl (fun _ => rfl)
theorem gf_X18_1_X18 : GF RX18 1 14 1 true true (tyX18 1) := gf_of cf_X18 (by decide) (lk_own (t := TX18 1) q2228) rfl rfl (fun _ => rfl)
theorem gf_X19_18_X19 : GF RX19 18 15 0 true true (tyX19 0) := gf_of cf_X19 (by decide) (lk_own (t := TX19 0) q2334) rfl rfl (fun _ => rfl)
theorem gf_X19_22_X19 : GF RX19 22 15 1 true true (tyX19 1) := gf_of cf_X19 (by decide) (lk_own (t := TX19 1) q2335) rfl rfl (fun _ => rfl)
theorem gf_X19_26_X19 : GF RX19 26 15 2 true true (tyX19 2) := gf_of cf_X19 (by decide) (lk_own (t := TX19 2) q2336) rfl rfl (fun _ => rfl)
theorem gf_X19_29_X19 : GF RX19 29 15 3 true true (tyX19 3) := gf_of cf_X19 (by decide) (lk_own (t := TX19 3) q2337) rfl rfl (fun _ => rfl)
theorem gf_X19_32_X19 : GF RX19 32 15 4 true true (tyX19 4) := gf_of cf_X19 (by decide) (lk_own (t := TX19 4) q2338) rfl rfl (fun _ => rfl)
theorem gf_X19_3_X19 : GF RX19 3 15 5 true true (tyX19 5) := gf_of cf_X19 (by decide) (lk_own (t := TX19 5) q2339) rfl rfl (fun _ => rfl)
theorem gf_X2_20_X2 : GF RX2 20 1 0 true true (tyX2 0) := gf_of cf_X2 (by decide) (lk_own (t := TX2 0) q193) rfl rfl (fun _ => rfl)
theorem gf_X2_24_X2 : GF RX2 24 1 1 true true (tyX2 1) := gf_of cf_X2 (by decide) (lk_own (t := TX2 1) q197) rfl rfl (fun _ => rfl)
theorem gf_X2_9_X2 : GF RX2 9 1 2 true true (tyX2 2) := gf_of cf_X2 (by decide) (lk_own (t := TX2 2) q201) rfl rfl (fun _ => rfl)
theorem gf_X2_17_X2 : GF RX2 17 1 3 true true (tyX2 3) := gf_of cf_X2 (by decide) (lk_own (t := TX2 3) q205) rfl rfl (fun _ => rfl)
theorem gf_X2_36_X2 : GF RX2 36 1 4 false true (tyX2 4) := gf_of cf_X2 (by decide) (lk_own (t := TX2 4) q208) rfl rfl (fun _ => rfl)
theorem gf_X2_40_X2 : GF RX2 40 1 5 false true (tyX2 5) := gf_of cf_X2 (by decide) (lk_own (t := TX2 5) q212) rfl rfl (fun _ => rfl)
theorem gf_X20_17_X20 : GF RX20 17 16 0 true true (tyX20 0) := gf_of cf_X20 (by decide) (lk_own (t := TX20 0) q2552) rfl rfl (fun _ => rfl)
theorem gf_X20_24_X20 : GF RX20 24 16 1 true true (tyX20 1) := gf_of cf_X20 (by decide) (lk_own (t := TX20 1) q2553) rfl rfl (fun _ => rfl)
theorem gf_X20_3_X20 : GF RX20 3 16 2 true true (tyX20 2) := gf_of cf_X20 (by decide) (lk_own (t := TX20 2) q2554) rfl rfl (fun _ => rfl)
theorem gf_X3_111_X3 : GF RX3 111 2 0 false true (tyX3 0) := gf_of cf_X3 (by decide) (lk_own (t := TX3 0) q2711) rfl rfl (fun _ => rfl)
theorem gf_X3_7_X3 : GF RX3 7 2 1 true true (tyX3 1) := gf_of cf_X3 (by decide) (lk_own (t := TX3 1) q2712) rfl rfl (fun _ => rfl)
theorem gf_X3_13_X3 : GF RX3 13 2 2 true true (tyX3 2) := gf_of cf_X3 (by decide) (lk_own (t := TX3 2) q2713) rfl rfl (fun _ => rfl)
theorem gf_X3_16_X3 : GF RX3 16 2 3 true true (tyX3 3) := gf_of cf_X3 (by decide) (lk_own (t := TX3 3) q2714) rfl rfl (fun _ => rfl)
theorem gf_X3_20_X3 : GF RX3 20 2 4 true true (tyX3 4) := gf_of cf_X3 (by decide) (lk_own (t := TX3 4) q2715) rfl rfl (fun _ => rfl)
theorem gf_X3_125_X3 : GF RX3 125 2 5 false true (tyX3 5) := gf_of cf_X3 (by decide) (lk_own (t := TX3 5) q2716) rfl rfl (fun _ => rfl)
theorem gf_X3_413_X3 : GF RX3 413 2 6 false true (tyX3 6) := gf_of cf_X3 (by decide) (lk_own (t := TX3 6) q2717) rfl rfl (fun _ => rfl)
theorem gf_X3_114_X3 : GF RX3 114 2 7 false true (tyX3 7) := gf_of cf_X3 (by decide) (lk_own (t := TX3 7) q2718) rfl rfl (fun _ => rfl)
theorem gf_X3_23_X3 : GF RX3 23 2 8 false true (tyX3 8) := gf_of cf_X3 (by decide) (lk_own (t := TX3 8) q2719) rfl rfl (fun _ => rfl)
theorem gf_X3_27_X3 : GF RX3 27 2 9 true true (tyX3 9) := gf_of cf_X3 (by decide) (lk_own (t := TX3 9) q2720) rfl rfl (fun _ => rfl)
theorem gf_X3_225_X3 : GF RX3 225 2 10 false true (tyX3 10) := gf_of cf_X3 (by decide) (lk_own (t := TX3 10) q2721) rfl rfl (fun _ => rfl)
theorem gf_X3_30_X3 : GF RX3 30 2 11 false true (tyX3 11) := gf_of cf_X3 (by decide) (lk_own (t := TX3 11) q2722) rfl rfl (fun _ => rfl)
theorem gf_X3_33_X3 : GF RX3 33 2 12 true true (tyX3 12) := gf_of cf_X3 (by decide) (lk_own (t := TX3 12) q2723) rfl rfl (fun _ => rfl)
theorem gf_X3_288_X3 : GF RX3 288 2 13 false true (tyX3 13) := gf_of cf_X3 (by decide) (lk_own (t := TX3 13) q2724) rfl rfl (fun _ => rfl)
theorem gf_X3_128_X3 : GF RX3 128 2 14 false true (tyX3 14) := gf_of cf_X3 (by decide) (lk_own (t := TX3 14) q2725) rfl rfl (fun _ => rfl)
theorem gf_X3_153_X3 : GF RX3 153 2 15 false true (tyX3 15) := gf_of cf_X3 (by decide) (lk_own (t := TX3 15) q2726) rfl rfl (fun _ => rfl)
theorem gf_X3_156_X3 : GF RX3 156 2 16 false true (tyX3 16) := gf_of cf_X3 (by decide) (lk_own (t := TX3 16) q2727) rfl rfl (fun _ => rfl)
theorem gf_X3_141_X3 : GF RX3 141 2 17 false true (tyX3 17) := gf_of cf_X3 (by decide) (lk_own (t := TX3 17) q2728) rfl rfl (fun _ => rfl)
theorem gf_X3_144_X3 : GF RX3 144 2 18 false true (tyX3 18) := gf_of cf_X3 (by decide) (lk_own (t := TX3 18) q2729) rfl rfl (fun _ => rfl)
theorem gf_X3_147_X3 : GF RX3 147 2 19 false true (tyX3 19) := gf_of cf_X3 (by decide) (lk_own (t := TX3 19) q2730) rfl rfl (fun _ => rfl)
theorem gf_X3_150_X3 : GF RX3 150 2 20 false true (tyX3 20) := gf_of cf_X3 (by decide) (lk_own (t := TX3 20) q2731) rfl rfl (fun _ => rfl)
theorem gf_X3_36_X3 : GF RX3 36 2 21 true true (tyX3 21) := gf_of cf_X3 (by decide) (lk_own (t := TX3 21) q2732) rfl rfl (fun _ => rfl)
theorem gf_X3_39_X3 : GF RX3 39 2 22 true true (tyX3 22) := gf_of cf_X3 (by decide) (lk_own (t := TX3 22) q2733) rfl rfl (fun _ => rfl)
theorem gf_X3_174_X3 : GF RX3 174 2 23 false true (tyX3 23) := gf_of cf_X3 (by decide) (lk_own (t := TX3 23) q2734) rfl rfl (fun _ => rfl)
theorem gf_X3_42_X3 : GF RX3 42 2 24 true true (tyX3 24) := gf_of cf_X3 (by decide) (lk_own (t := TX3 24) q2735) rfl rfl (fun _ => rfl)
theorem gf_X3_45_X3 : GF RX3 45 2 25 true true (tyX3 25) := gf_of cf_X3 (by decide) (lk_own (t := TX3 25) q2736) rfl rfl (fun _ => rfl)
theorem gf_X3_48_X3 : GF RX3 48 2 26 true true (tyX3 26) := gf_of cf_X3 (by decide) (lk_own (t := TX3 26) q2737) rfl rfl (fun _ => rfl)
theorem gf_X3_51_X3 : GF RX3 51 2 27 true true (tyX3 27) := gf_of cf_X3 (by decide) (lk_own (t := TX3 27) q2738) rfl rfl (fun _ => rfl)
theorem gf_X3_54_X3 : GF RX3 54 2 28 true true (tyX3 28) := gf_of cf_X3 (by decide) (lk_own (t := TX3 28) q2739) rfl rfl (fun _ => rfl)
theorem gf_X3_57_X3 : GF RX3 57 2 29 true true (tyX3 29) := gf_of cf_X3 (by decide) (lk_own (t := TX3 29) q2740) rfl rfl (fun _ => rfl)
theorem gf_X3_60_X3 : GF RX3 60 2 30 true true (tyX3 30) := gf_of cf_X3 (by decide) (lk_own (t := TX3 30) q2741) rfl rfl (fun _ => rfl)
theorem gf_X3_63_X3 : GF RX3 63 2 31 true true (tyX3 31) := gf_of cf_X3 (by decide) (lk_own (t := TX3 31) q2742) rfl rfl (fun _ => rfl)
theorem gf_X3_66_X3 : GF RX3 66 2 32 true true (tyX3 32) := gf_of cf_X3 (by decide) (lk_own (t := TX3 32) q2743) rfl rfl (fun _ => rfl)
theorem gf_X3_71_X3 : GF RX3 71 2 33 true true (tyX3 33) := gf_of cf_X3 (by decide) (lk_own (t := TX3 33) q2744) rfl rfl (fun _ => rfl)
theorem gf_X3_74_X3 : GF RX3 74 2 34 true true (tyX3 34) := gf_of cf_X3 (by decide) (lk_own (t := TX3 34) q2745) rfl rfl (fun _ => rfl)
theorem gf_X3_228_X3 : GF RX3 228 2 35 false true (tyX3 35) := gf_of cf_X3 (by decide) (lk_own (t := TX3 35) q2746) rfl rfl (fun _ => rfl)
theorem gf_X3_231_X3 : GF RX3 231 2 36 false true (tyX3 36) := gf_of cf_X3 (by decide) (lk_own (t := TX3 36) q2747) rfl rfl (fun _ => rfl)
theorem gf_X3_238_X3 : GF RX3 238 2 37 false true (tyX3 37) := gf_of cf_X3 (by decide) (lk_own (t := TX3 37) q2748) rfl rfl (fun _ => rfl)
theorem gf_X3_77_X3 : GF RX3 77 2 38 true true (tyX3 38) := gf_of cf_X3 (by decide) (lk_own (t := TX3 38) q2749) rfl rfl (fun _ => rfl)
theorem gf_X3_80_X3 : GF RX3 80 2 39 true true (tyX3 39) := gf_of cf_X3 (by decide) (lk_own (t := TX3 39) q2750) rfl rfl (fun _ => rfl)
theorem gf_X3_83_X3 : GF RX3 83 2 40 true true (tyX3 40) := gf_of cf_X3 (by decide) (lk_own (t := TX3 40) q2751) rfl rfl (fun _ => rfl)
theorem gf_X3_86_X3 : GF RX3 86 2 41 true true (tyX3 41) := gf_of cf_X3 (by decide) (lk_own (t := TX3 41) q2752) rfl rfl (fun _ => rfl)
theorem gf_X3_352_X3 : GF RX3 352 2 42 false true (tyX3 42) := gf_of cf_X3 (by decide) (lk_own (t := TX3 42) q2753) rfl rfl (fun _ => rfl)
theorem gf_X3_361_X3 : GF RX3 361 2 43 false true (tyX3 43) := gf_of cf_X3 (by decide) (lk_own (t := TX3 43) q2754) rfl rfl (fun _ => rfl)
theorem gf_X3_364_X3 : GF RX3 364 2 44 false true (tyX3 44) := gf_of cf_X3 (by decide) (lk_own (t := TX3 44) q2755) rfl rfl (fun _ => rfl)
theorem gf_X3_367_X3 : GF RX3 367 2 45 false true (tyX3 45) := gf_of cf_X3 (by decide) (lk_own (t := TX3 45) q2756) rfl rfl (fun _ => rfl)
theorem gf_X3_370_X3 : GF RX3 370 2 46 false true (tyX3 46) := gf_of cf_X3 (by decide) (lk_own (t := TX3 46) q2757) rfl rfl (fun _ => rfl)
theorem gf_X3_89_X3 : GF RX3 89 2 47 true true (tyX3 47) := gf_of cf_X3 (by decide) (lk_own (t := TX3 47) q2758) rfl rfl (fun _ => rfl)
theorem gf_X3_92_X3 : GF RX3 92 2 48 true true (tyX3 48) := gf_of cf_X3 (by decide) (lk_own (t := TX3 48) q2759) rfl rfl (fun _ => rfl)
theorem gf_X3_95_X3 : GF RX3 95 2 49 true true (tyX3 49) := gf_of cf_X3 (by decide) (lk_own (t := TX3 49) q2760) rfl rfl (fun _ => rfl)
theorem gf_X3_98_X3 : GF RX3 98 2 50 true true (tyX3 50) := gf_of cf_X3 (by decide) (lk_own (t := TX3 50) q2761) rfl rfl (fun _ => rfl)
theorem gf_X3_101_X3 : GF RX3 101 2 51 true true (tyX3 51) := gf_of cf_X3 (by decide) (lk_own (t := TX3 51) q2762) rfl rfl (fun _ => rfl)
theorem gf_X3_104_X3 : GF RX3 104 2 52 true true (tyX3 52) := gf_of cf_X3 (by decide) (lk_own (t := TX3 52) q2763) rfl rfl (fun _ => rfl)
theorem gf_X4_9_X4 : GF RX4 9 3 0 true true (tyX4 0) := gf_of cf_X4 (by decide) (lk_own (t := TX4 0) q1482) rfl rfl (fun _ => rfl)
theorem gf_X4_15_X4 : GF RX4 15 3 1 true true (tyX4 1) := gf_of cf_X4 (by decide) (lk_own (t := TX4 1) q1483) rfl rfl (fun _ => rfl)
theorem gf_X4_19_X4 : GF RX4 19 3 2 true true (tyX4 2) := gf_of cf_X4 (by decide) (lk_own (t := TX4 2) q1484) rfl rfl (fun _ => rfl)
theorem gf_X5_24_X5 : GF RX5 24 4 0 true true (tyX5 0) := gf_of cf_X5 (by decide) (lk_own (t := TX5 0) q1163) rfl rfl (fun _ => rfl)
theorem gf_X5_30_X5 : GF RX5 30 4 1 true true (tyX5 1) := gf_of cf_X5 (by decide) (lk_own (t := TX5 1) q1167) rfl rfl (fun _ => rfl)
theorem gf_X5_33_X5 : GF RX5 33 4 2 true true (tyX5 2) := gf_of cf_X5 (by decide) (lk_own (t := TX5 2) q1172) rfl rfl (fun _ => rfl)
theorem gf_X5_18_X5 : GF RX5 18 4 3 true true (tyX5 3) := gf_of cf_X5 (by decide) (lk_own (t := TX5 3) q1174) rfl rfl (fun _ => rfl)
theorem gf_X6_9_X6 : GF RX6 9 5 0 true true (tyX6 0) := gf_of cf_X6 (by decide) (lk_own (t := TX6 0) q1597) rfl rfl (fun _ => rfl)
theorem gf_X6_15_X6 : GF RX6 15 5 1 false true (tyX6 1) := gf_of cf_X6 (by decide) (lk_own (t := TX6 1) q1598) rfl rfl (fun _ => rfl)
theorem gf_X6_84_X6 : GF RX6 84 5 2 false true (tyX6 2) := gf_of cf_X6 (by decide) (lk_own (t := TX6 2) q1599) rfl rfl (fun _ => rfl)
theorem gf_X7_7_X7 : GF RX7 7 6 6 true true (tyX7 6) := gf_of cf_X7 (by decide) (lk_own (t := TX7 6) q1701) rfl rfl (fun _ => rfl)
theorem gf_X9_7_X10 : GF RX9 7 7 0 true true (tyX10 0) := gf_of cf_X10 (by decide) (lk_own (t := TX10 0) q1924) rfl rfl (fun _ => rfl)
theorem gf_X9_7_X14 : GF RX9 7 10 0 true true (tyX14 0) := gf_of cf_X14 (by decide) (lk_own (t := TX14 0) q1924) rfl rfl (fun _ => rfl)
theorem gf_X9_7_X15 : GF RX9 7 11 0 true true (tyX15 0) := gf_of cf_X15 (by decide) (lk_own (t := TX15 0) q1924) rfl rfl (fun _ => rfl)
theorem gf_J30_28_J26 : GF RJ30 28 29 2 false false (tyJ26 2) := gf_of cf_J26 (by decide) (lk_nest (t := TJ26 2) q1624) rfl rfl (fun q => by cases q)
theorem gf_X1_351_X2 : GF RX1 351 1 0 true false (tyX2 0) := gf_of cf_X2 (by decide) (lk_nest (t := TX2 0) q196) rfl rfl (fun q => by cases q)
theorem gf_X1_381_X2 : GF RX1 381 1 1 true false (tyX2 1) := gf_of cf_X2 (by decide) (lk_nest (t := TX2 1) q200) rfl rfl (fun q => by cases q)
theorem gf_X1_147_X2 : GF RX1 147 1 2 true false (tyX2 2) := gf_of cf_X2 (by decide) (lk_nest (t := TX2 2) q204) rfl rfl (fun q => by cases q)
theorem gf_X1_344_X2 : GF RX1 344 1 3 true false (tyX2 3) := gf_of cf_X2 (by decide) (lk_nest (t := TX2 3) q207) rfl rfl (fun q => by cases q)
theorem gf_X1_121_X2 : GF RX1 121 1 4 false false (tyX2 4) := gf_of cf_X2 (by decide) (lk_nest (t := TX2 4) q210) rfl rfl (fun q => by cases q)
theorem gf_X1_280_X2 : GF RX1 280 1 5 false false (tyX2 5) := gf_of cf_X2 (by decide) (lk_nest (t := TX2 5) q214) rfl rfl (fun q => by cases q)
theorem gf_X1_284_X5 : GF RX1 284 4 0 true false (tyX5 0) := gf_of cf_X5 (by decide) (lk_nest (t := TX5 0) q1166) rfl rfl (fun q => by cases q)
theorem gf_X1_291_X5 : GF RX1 291 4 1 true false (tyX5 1) := gf_of cf_X5 (by decide) (lk_nest (t := TX5 1) q1171) rfl rfl (fun q => by cases q)
theorem gf_X1_206_X7 : GF RX1 206 6 6 true false (tyX7 6) := gf_of cf_X7 (by decide) (lk_nest (t := TX7 6) q1702) rfl rfl (fun q => by cases q)
theorem gf_X1_195_X17 : GF RX1 195 13 6 true false (tyX17 6) := gf_of cf_X17 (by decide) (lk_nest (t := TX17 6) q2005) rfl rfl (fun q => by cases q)
theorem gf_X1_196_X17 : GF RX1 196 13 7 true false (tyX17 7) := gf_of cf_X17 (by decide) (lk_nest (t := TX17 7) q2007) rfl rfl (fun q => by cases q)
theorem gf_X12_7_X5 : GF RX12 7 4 2 true false (tyX5 2) := gf_of cf_X5 (by decide) (lk_nest (t := TX5 2) q1173) rfl rfl (fun q => by cases q)
theorem gf_X13_47_X5 : GF RX13 47 4 1 true false (tyX5 1) := gf_of cf_X5 (by decide) (lk_nest (t := TX5 1) q1168) rfl rfl (fun q => by cases q)
theorem gf_X13_52_X5 : GF RX13 52 4 3 true false (tyX5 3) := gf_of cf_X5 (by decide) (lk_nest (t := TX5 3) q1175) rfl rfl (fun q => by cases q)
theorem gf_X19_49_X2 : GF RX19 49 1 0 true false (tyX2 0) := gf_of cf_X2 (by decide) (lk_nest (t := TX2 0) q195) rfl rfl (fun q => by cases q)
theorem gf_X19_39_X2 : GF RX19 39 1 1 true false (tyX2 1) := gf_of cf_X2 (by decide) (lk_nest (t := TX2 1) q198) rfl rfl (fun q => by cases q)
theorem gf_X19_70_X2 : GF RX19 70 1 2 true false (tyX2 2) := gf_of cf_X2 (by decide) (lk_nest (t := TX2 2) q203) rfl rfl (fun q => by cases q)
theorem gf_X19_104_X2 : GF RX19 104 1 4 false false (tyX2 4) := gf_of cf_X2 (by decide) (lk_nest (t := TX2 4) q209) rfl rfl (fun q => by cases q)
theorem gf_X19_73_X2 : GF RX19 73 1 5 false false (tyX2 5) := gf_of cf_X2 (by decide) (lk_nest (t := TX2 5) q213) rfl rfl (fun q => by cases q)
theorem gf_X19_90_X5 : GF RX19 90 4 0 true false (tyX5 0) := gf_of cf_X5 (by decide) (lk_nest (t := TX5 0) q1165) rfl rfl (fun q => by cases q)
theorem gf_X19_77_X5 : GF RX19 77 4 1 true false (tyX5 1) := gf_of cf_X5 (by decide) (lk_nest (t := TX5 1) q1169) rfl rfl (fun q => by cases q)
theorem gf_X2_69_X5 : GF RX2 69 4 1 true false (tyX5 1) := gf_of cf_X5 (by decide) (lk_nest (t := TX5 1) q1170) rfl rfl (fun q => by cases q)
theorem gf_X2_100_X16 : GF RX2 100 12 0 true false (tyX16 0) := gf_of cf_X16 (by decide) (lk_nest (t := TX16 0) q1961) rfl rfl (fun q => by cases q)
theorem gf_X20_28_X2 : GF RX20 28 1 0 true false (tyX2 0) := gf_of cf_X2 (by decide) (lk_nest (t := TX2 0) q194) rfl rfl (fun q => by cases q)
theorem gf_X20_54_X2 : GF RX20 54 1 1 true false (tyX2 1) := gf_of cf_X2 (by decide) (lk_nest (t := TX2 1) q199) rfl rfl (fun q => by cases q)
theorem gf_X20_34_X2 : GF RX20 34 1 5 false false (tyX2 5) := gf_of cf_X2 (by decide) (lk_nest (t := TX2 5) q211) rfl rfl (fun q => by cases q)
theorem gf_X20_38_X5 : GF RX20 38 4 0 true false (tyX5 0) := gf_of cf_X5 (by decide) (lk_nest (t := TX5 0) q1164) rfl rfl (fun q => by cases q)
theorem gf_X4_29_X2 : GF RX4 29 1 2 true false (tyX2 2) := gf_of cf_X2 (by decide) (lk_nest (t := TX2 2) q202) rfl rfl (fun q => by cases q)
theorem gf_X4_34_X2 : GF RX4 34 1 3 true false (tyX2 3) := gf_of cf_X2 (by decide) (lk_nest (t := TX2 3) q206) rfl rfl (fun q => by cases q)
theorem cv_J0_7_J26 : EntV g RJ0 (.invokevirtual 7) 3 RJ26 mJ26_size.1 0 := entV_U (M := mJ26_size) (x := ⟨"java/util/AbstractCollection", "size", "()I"⟩) (owner := "java/util/AbstractCollection") q778 q780 (decl_d q779) ⟨by decide +kernel, by decide +kernel⟩ q787 q788 (by decide +kernel)
theorem cv_J0_7_J3 : EntV g RJ0 (.invokevirtual 7) 3 RJ3 mJ3_size.1 0 := entV_U (M := mJ3_size) (x := ⟨"java/util/AbstractCollection", "size", "()I"⟩) (owner := "java/util/AbstractCollection") q778 q780 (decl_d q779) ⟨by decide +kernel, by decide +kernel⟩ q790 q791 (by decide +kernel)
theorem cv_J0_7_J4 : EntV g RJ0 (.invokevirtual 7) 3 RJ4 mJ4_size.1 0 := entV_U (M := mJ4_size) (x := ⟨"java/util/AbstractCollection", "size", "()I"⟩) (owner := "java/util/AbstractCollection") q778 q780 (decl_d q779) ⟨by decide +kernel, by decide +kernel⟩ q781 q782 (by decide +kernel)
theorem ci_J1_1 {C : String} : EntV g RJ1 (.invokespecial 1) 3 C mJ0_init.1 0 := entV_I (M := mJ0_init) rfl rfl rfl q240 q241 q242 ⟨by decide +kernel, by decide +kernel⟩ (by decide +kernel)
theorem cv_J1_47_J26 : EntV g RJ1 (.invokevirtual 47) 3 RJ26 mJ26_listIterator.1 1 := entV_U (M := mJ26_listIterator) (x := ⟨"java/util/AbstractList", "listIterator", "(I)Ljava/util/ListIterator;"⟩) (owner := "java/util/AbstractList") q367 q369 (decl_d q761) ⟨by decide +kernel, by decide +kernel⟩ q370 q371 (by decide +kernel)
theorem cv_J1_47_J3 : EntV g RJ1 (.invokevirtual 47) 3 RJ3 mJ3_listIterator.1 1 := entV_U (M := mJ3_listIterator) (x := ⟨"java/util/AbstractList", "listIterator", "(I)Ljava/util/ListIterator;"⟩) (owner := "java/util/AbstractList") q367 q369 (decl_d q761) ⟨by decide +kernel, by decide +kernel⟩ q711 q712 (by decide +kernel)
theorem ci_J10_7 {C : String} : EntV g RJ10 (.invokespecial 7) 3 C mJ9_init_2.1 1 := entV_I (M := mJ9_init_2) rfl rfl rfl q638 q639 q640 ⟨by decide +kernel, by decide +kernel⟩ (by decide +kernel)
theorem ci_J10_1 {C : String} : EntV g RJ10 (.invokespecial 1) 3 C mJ9_init.1 0 := entV_I (M := mJ9_init) rfl rfl rfl q853 q401 q402 ⟨by decide +kernel, by decide +kernel⟩ (by decide +kernel)
theorem ci_J10_13 {C : String} : EntV g RJ10 (.invokespecial 13) 3 C mJ9_init_3.1 1 := entV_I (M := mJ9_init_3) rfl rfl rfl q974 q975 q976 ⟨by decide +kernel, by decide +kernel⟩ (by decide +kernel)
theorem ci_J10_16 {C : String} : EntV g RJ10 (.invokespecial 16) 3 C mJ9_init_4.1 4 := entV_I (M := mJ9_init_4) rfl rfl rfl q1698 q1699 q1700 ⟨by decide +kernel, by decide +kernel⟩ (by decide +kernel)
theorem ci_J11_7 {C : String} : EntV g RJ11 (.invokespecial 7) 3 C mJ10_init.1 1 := entV_I (M := mJ10_init) rfl rfl rfl q635 q636 q637 ⟨by decide +kernel, by decide +kernel⟩ (by decide +kernel)
theorem ci_J11_1 {C : String} : EntV g RJ11 (.invokespecial 1) 3 C mJ10_init_2.1 0 := entV_I (M := mJ10_init_2) rfl rfl rfl q850 q851 q852 ⟨by decide +kernel, by decide +kernel⟩ (by decide +kernel)
theorem ci_J11_13 {C : String} : EntV g RJ11 (.invokespecial 13) 3 C mJ10_init_3.1 1 := entV_I (M := mJ10_init_3) rfl rfl rfl q971 q972 q973 ⟨by decide +kernel, by decide +kernel⟩ (by decide +kernel)
theorem ci_J12_7 {C : String} : EntV g RJ12 (.invokespecial 7) 3 C mJ11_init.1 1 := entV_I (M := mJ11_init) rfl rfl rfl q632 q633 q634 ⟨by decide +kernel, by decide +kernel⟩ (by decide +kernel)
theorem ci_J12_1 {C : String} : EntV g RJ12 (.invokespecial 1) 3 C mJ11_init_2.1 0 := entV_I (M := mJ11_init_2) rfl rfl rfl q1419 q848 q849 ⟨by decide +kernel, by decide +kernel⟩ (by decide +kernel)
theorem ci_J13_7 {C : String} : EntV g RJ13 (.invokespecial 7) 3 C mJ11_init.1 1 := entV_I (M := mJ11_init) rfl rfl rfl q681 q633 q634 ⟨by decide +kernel, by decide +kernel⟩ (by decide +kernel)
theorem ci_J13_1 {C : String} : EntV g RJ13 (.invokespecial 1) 3 C mJ11_init_2.1 0 := entV_I (M := mJ11_init_2) rfl rfl rfl q884 q848 q849 ⟨by decide +kernel, by decide +kernel⟩ (by decide +kernel)
theorem ci_J14_7 {C : String} : EntV g RJ14 (.invokespecial 7) 3 C mJ13_init.1 1 := entV_I (M := mJ13_init) rfl rfl rfl q1442 q679 q680 ⟨by decide +kernel, by decide +kernel⟩ (by decide +kernel)
theorem ci_J16_1 {C : String} : EntV g RJ16 (.invokespecial 1) 3 C mJ11_init_2.1 0 := entV_I (M := mJ11_init_2) rfl rfl rfl q847 q848 q849 ⟨by decide +kernel, by decide +kernel⟩ (by decide +kernel)
theorem ci_J16_10 {C : String} : EntV g RJ16 (.invokespecial 10) 3 C mJ11_init_3.1 1 := entV_I (M := mJ11_init_3) rfl rfl rfl q968 q969 q970 ⟨by decide +kernel, by decide +kernel⟩ (by decide +kernel)
theorem ci_J17_7 {C : String} : EntV g RJ17 (.invokespecial 7) 3 C mJ11_init.1 1 := entV_I (M := mJ11_init) rfl rfl rfl q1539 q633 q634 ⟨by decide +kernel, by decide +kernel⟩ (by decide +kernel)
theorem ci_J17_1 {C : String} : EntV g RJ17 (.invokespecial 1) 3 C mJ11_init_2.1 0 := entV_I (M := mJ11_init_2) rfl rfl rfl q2137 q848 q849 ⟨by decide +kernel, by decide +kernel⟩ (by decide +kernel)
theorem cs_J18_304 : EntS g RJ18 (.invokestatic 304) 3 mJ19_min.1 2 := entS_S (M := mJ19_min) q472 q473 q143 q474 ⟨by decide +kernel, by decide +kernel⟩ (by decide +kernel)
theorem cs_J18_339 : EntS g RJ18 (.invokestatic 339) 3 mJ18_copyOfRangeByte.1 3 := entS_S (M := mJ18_copyOfRangeByte) q608 q609 q142 q610 ⟨by decide +kernel, by decide +kernel⟩ (by decide +kernel)
theorem cs_J18_343 : EntS g RJ18 (.invokestatic 343) 3 mJ18_checkLength.1 2 := entS_S (M := mJ18_checkLength) q611 q612 q142 q613 ⟨by decide +kernel, by decide +kernel⟩ (by decide +kernel)
theorem ci_J18_47 {C : String} : EntV g RJ18 (.invokespecial 47) 3 C mJ6_init.1 0 := entV_I (M := mJ6_init) rfl rfl rfl q624 q286 q287 ⟨by decide +kernel, by decide +kernel⟩ (by decide +kernel)
theorem cv_J18_54_J6 : EntV g RJ18 (.invokevirtual 54) 3 RJ6 mJ6_append_2.1 1 := entV_V (M := mJ6_append_2) q625 q553 q554 q555 ⟨by decide +kernel, by decide +kernel⟩ (by decide +kernel)
theorem cv_J18_50_J6 : EntV g RJ18 (.invokevirtual 50) 3 RJ6 mJ6_append.1 1 := entV_V (M := mJ6_append) q627 q433 q434 q435 ⟨by decide +kernel, by decide +kernel⟩ (by decide +kernel)
theorem cv_J18_61_J6 : EntV g RJ18 (.invokevirtual 61) 3 RJ6 mJ6_toString.1 0 := entV_V (M := mJ6_toString) q628 q579 q580 q581 ⟨by decide +kernel, by decide +kernel⟩ (by decide +kernel)
theorem ci_J18_65 {C : String} : EntV g RJ18 (.invokespecial 65) 3 C mJ12_init.1 1 := entV_I (M := mJ12_init) rfl rfl rfl q629 q630 q631 ⟨by decide +kernel, by decide +kernel⟩ (by decide +kernel)
theorem cs_J18_300 : EntS g RJ18 (.invokestatic 300) 3 mJ18_copyOf_3.1 3 := entS_S (M := mJ18_copyOf_3) q1385 q1386 q142 q1387 ⟨by decide +kernel, by decide +kernel⟩ (by decide +kernel)
theorem ci_J2_1 {C : String} : EntV g RJ2 (.invokespecial 1) 3 C mJ1_init.1 0 := entV_I (M := mJ1_init) rfl rfl rfl q237 q238 q239 ⟨by decide +kernel, by decide +kernel⟩ (by decide +kernel)
theorem cv_J2_65_J3 : EntV g RJ2 (.invokevirtual 65) 3 RJ3 mJ1_listIterator.1 0 := entV_U (M := mJ1_listIterator) (x := ⟨"java/util/AbstractSequentialList", "listIterator", "()Ljava/util/ListIterator;"⟩) (owner := "java/util/AbstractList") q361 q362 (decl_m (M0 := mJ1_listIterator) q365 q366) ⟨by decide +kernel, by decide +kernel⟩ q364 q365 (by decide +kernel)
theorem cs_J21_105 : EntS g RJ21 (.invokestatic 105) 3 mJ22_checkIndex.1 3 := entS_S (M := mJ22_checkIndex) q901 q902 q147 q903 ⟨by decide +kernel, by decide +kernel⟩ (by decide +kernel)
theorem cs_J23_240 : EntS g RJ23 (.invokestatic 240) 3 mJ8_inflate.1 5 := entS_S (M := mJ8_inflate) q534 q535 q128 q536 ⟨by decide +kernel, by decide +kernel⟩ (by decide +kernel)
theorem cs_J23_9 : EntS g RJ23 (.invokestatic 9) 3 mJ7_checkIndex.1 2 := entS_S (M := mJ7_checkIndex) q1210 q1211 q127 q1212 ⟨by decide +kernel, by decide +kernel⟩ (by decide +kernel)
theorem cs_J23_88 : EntS g RJ23 (.invokestatic 88) 3 mJ23_canEncode_2.1 1 := entS_S (M := mJ23_canEncode_2) q1790 q1791 q148 q1792 ⟨by decide +kernel, by decide +kernel⟩ (by decide +kernel)
theorem cs_J23_92 : EntS g RJ23 (.invokestatic 92) 3 mJ19_max.1 2 := entS_S (M := mJ19_max) q1793 q455 q143 q456 ⟨by decide +kernel, by decide +kernel⟩ (by decide +kernel)
theorem cs_J23_38 : EntS g RJ23 (.invokestatic 38) 3 mJ19_min.1 2 := entS_S (M := mJ19_min) q1794 q473 q143 q474 ⟨by decide +kernel, by decide +kernel⟩ (by decide +kernel)
theorem cs_J23_95 : EntS g RJ23 (.invokestatic 95) 3 mJ23_indexOfChar.1 4 := entS_S (M := mJ23_indexOfChar) q1795 q1796 q148 q1797 ⟨by decide +kernel, by decide +kernel⟩ (by decide +kernel)
theorem cs_J23_232 : EntS g RJ23 (.invokestatic 232) 3 mJ18_copyOfRange.1 3 := entS_S (M := mJ18_copyOfRange) q1852 q606 q142 q607 ⟨by decide +kernel, by decide +kernel⟩ (by decide +kernel)
theorem ci_J23_112 {C : String} : EntV g RJ23 (.invokespecial 112) 3 C mJ7_init_3.1 2 := entV_I (M := mJ7_init_3) rfl rfl rfl q1853 q1854 q1855 ⟨by decide +kernel, by decide +kernel⟩ (by decide +kernel)
theorem ci_J24_1 {C : String} : EntV g RJ24 (.invokespecial 1) 3 C mJ11_init_2.1 0 := entV_I (M := mJ11_init_2) rfl rfl rfl q1578 q848 q849 ⟨by decide +kernel, by decide +kernel⟩ (by decide +kernel)
theorem cs_J25_194 : EntS g RJ25 (.invokestatic 194) 3 mJ19_max.1 2 := entS_S (M := mJ19_max) q454 q455 q143 q456 ⟨by decide +kernel, by decide +kernel⟩ (by decide +kernel)
theorem cs_J25_201 : EntS g RJ25 (.invokestatic 201) 3 mJ25_hugeLength.1 2 := entS_S (M := mJ25_hugeLength) q458 q459 q150 q460 ⟨by decide +kernel, by decide +kernel⟩ (by decide +kernel)
theorem cv_J26_135_J26 : EntV g RJ26 (.invokevirtual 135) 3 RJ26 mJ26_rangeCheckForAdd.1 1 := entV_V (M := mJ26_rangeCheckForAdd) q373 q375 qs0 q377 ⟨by decide +kernel, by decide +kernel⟩ (by decide +kernel)
theorem cv_J26_198_J26 : EntV g RJ26 (.invokevirtual 198) 3 RJ26 mJ26_outOfBoundsMsg.1 1 := entV_V (M := mJ26_outOfBoundsMsg) q425 q427 qs2 q428 ⟨by decide +kernel, by decide +kernel⟩ (by decide +kernel)
theorem ci_J26_22 {C : String} : EntV g RJ26 (.invokespecial 22) 3 C mJ6_init.1 0 := entV_I (M := mJ6_init) rfl rfl rfl q430 q286 q287 ⟨by decide +kernel, by decide +kernel⟩ (by decide +kernel)
theorem cv_J26_25_J6 : EntV g RJ26 (.invokevirtual 25) 3 RJ6 mJ6_append.1 1 := entV_V (M := mJ6_append) q432 q433 q434 q435 ⟨by decide +kernel, by decide +kernel⟩ (by decide +kernel)
theorem cv_J26_29_J6 : EntV g RJ26 (.invokevirtual 29) 3 RJ6 mJ6_append_2.1 1 := entV_V (M := mJ6_append_2) q552 q553 q554 q555 ⟨by decide +kernel, by decide +kernel⟩ (by decide +kernel)
theorem cv_J26_32_J6 : EntV g RJ26 (.invokevirtual 32) 3 RJ6 mJ6_toString.1 0 := entV_V (M := mJ6_toString) q578 q579 q580 q581 ⟨by decide +kernel, by decide +kernel⟩ (by decide +kernel)
theorem ci_J26_193 {C : String} : EntV g RJ26 (.invokespecial 193) 3 C mJ13_init.1 1 := entV_I (M := mJ13_init) rfl rfl rfl q678 q679 q680 ⟨by decide +kernel, by decide +kernel⟩ (by decide +kernel)
theorem ci_J26_264 {C : String} : EntV g RJ26 (.invokespecial 264) 3 C mJ33_init.1 2 := entV_I (M := mJ33_init) rfl rfl rfl q686 q687 q688 ⟨by decide +kernel, by decide +kernel⟩ (by decide +kernel)
theorem cs_J26_118 : EntS g RJ26 (.invokestatic 118) 3 mJ21_checkIndex.1 2 := entS_S (M := mJ21_checkIndex) q898 q899 q146 q900 ⟨by decide +kernel, by decide +kernel⟩ (by decide +kernel)
theorem cv_J26_123_J26 : EntV g RJ26 (.invokevirtual 123) 3 RJ26 mJ26_elementData.1 1 := entV_V (M := mJ26_elementData) q904 q905 q906 q907 ⟨by decide +kernel, by decide +kernel⟩ (by decide +kernel)
theorem cs_J26_66 : EntS g RJ26 (.invokestatic 66) 3 mJ18_copyOf_2.1 2 := entS_S (M := mJ18_copyOf_2) q1381 q1382 q142 q1383 ⟨by decide +kernel, by decide +kernel⟩ (by decide +kernel)
theorem ci_J26_1 {C : String} : EntV g RJ26 (.invokespecial 1) 3 C mJ1_init.1 0 := entV_I (M := mJ1_init) rfl rfl rfl q1619 q238 q239 ⟨by decide +kernel, by decide +kernel⟩ (by decide +kernel)
theorem cv_J26_131_J26 : EntV g RJ26 (.invokevirtual 131) 3 RJ26 mJ26_add_2.1 3 := entV_V (M := mJ26_add_2) q1762 q1764 qs24 q1765 ⟨by decide +kernel, by decide +kernel⟩ (by decide +kernel)
theorem cv_J26_129_J26 : EntV g RJ26 (.invokevirtual 129) 3 RJ26 mJ26_grow.1 0 := entV_V (M := mJ26_grow) q1766 q1768 qs25 q1769 ⟨by decide +kernel, by decide +kernel⟩ (by decide +kernel)
theorem cv_J26_69_J26 : EntV g RJ26 (.invokevirtual 69) 3 RJ26 mJ26_grow_2.1 1 := entV_V (M := mJ26_grow_2) q1770 q1772 qs26 q1773 ⟨by decide +kernel, by decide +kernel⟩ (by decide +kernel)
theorem cs_J26_73 : EntS g RJ26 (.invokestatic 73) 3 mJ25_newLength.1 3 := entS_S (M := mJ25_newLength) q1774 q452 q150 q453 ⟨by decide +kernel, by decide +kernel⟩ (by decide +kernel)
theorem cs_J26_79 : EntS g RJ26 (.invokestatic 79) 3 mJ19_max.1 2 := entS_S (M := mJ19_max) q1775 q455 q143 q456 ⟨by decide +kernel, by decide +kernel⟩ (by decide +kernel)
theorem ci_J26_269 {C : String} : EntV g RJ26 (.invokespecial 269) 3 C mJ30_init.1 1 := entV_I (M := mJ30_init) rfl rfl rfl q2396 q690 q691 ⟨by decide +kernel, by decide +kernel⟩ (by decide +kernel)
theorem cs_J26_57 : EntS g RJ26 (.invokestatic 57) 3 mJ18_copyOf_3.1 3 := entS_S (M := mJ18_copyOf_3) q2654 q1386 q142 q1387 ⟨by decide +kernel, by decide +kernel⟩ (by decide +kernel)
theorem ci_J28_199 {C : String} : EntV g RJ28 (.invokespecial 199) 3 C mJ28_init.1 1 := entV_I (M := mJ28_init) rfl rfl rfl q1747 q1748 q1749 ⟨by decide +kernel, by decide +kernel⟩ (by decide +kernel)
theorem ci_J28_202 {C : String} : EntV g RJ28 (.invokespecial 202) 3 C mJ27_init.1 0 := entV_I (M := mJ27_init) rfl rfl rfl q1750 q1751 q1752 ⟨by decide +kernel, by decide +kernel⟩ (by decide +kernel)
theorem ci_J3_1 {C : String} : EntV g RJ3 (.invokespecial 1) 3 C mJ2_init.1 0 := entV_I (M := mJ2_init) rfl rfl rfl q234 q235 q236 ⟨by decide +kernel, by decide +kernel⟩ (by decide +kernel)
theorem cv_J3_76_J3 : EntV g RJ3 (.invokevirtual 76) 3 RJ3 mJ3_checkPositionIndex.1 1 := entV_V (M := mJ3_checkPositionIndex) q714 q716 qs3 q717 ⟨by decide +kernel, by decide +kernel⟩ (by decide +kernel)
theorem cv_J3_128_J3 : EntV g RJ3 (.invokevirtual 128) 3 RJ3 mJ3_isPositionIndex.1 1 := entV_V (M := mJ3_isPositionIndex) q718 q720 qs4 q721 ⟨by decide +kernel, by decide +kernel⟩ (by decide +kernel)
theorem cv_J3_121_J3 : EntV g RJ3 (.invokevirtual 121) 3 RJ3 mJ3_outOfBoundsMsg.1 1 := entV_V (M := mJ3_outOfBoundsMsg) q723 q725 qs5 q726 ⟨by decide +kernel, by decide +kernel⟩ (by decide +kernel)
theorem ci_J3_99 {C : String} : EntV g RJ3 (.invokespecial 99) 3 C mJ6_init.1 0 := entV_I (M := mJ6_init) rfl rfl rfl q728 q286 q287 ⟨by decide +kernel, by decide +kernel⟩ (by decide +kernel)
theorem cv_J3_102_J6 : EntV g RJ3 (.invokevirtual 102) 3 RJ6 mJ6_append.1 1 := entV_V (M := mJ6_append) q730 q433 q434 q435 ⟨by decide +kernel, by decide +kernel⟩ (by decide +kernel)
theorem cv_J3_106_J6 : EntV g RJ3 (.invokevirtual 106) 3 RJ6 mJ6_append_2.1 1 := entV_V (M := mJ6_append_2) q731 q553 q554 q555 ⟨by decide +kernel, by decide +kernel⟩ (by decide +kernel)
theorem cv_J3_111_J6 : EntV g RJ3 (.invokevirtual 111) 3 RJ6 mJ6_toString.1 0 := entV_V (M := mJ6_toString) q733 q579 q580 q581 ⟨by decide +kernel, by decide +kernel⟩ (by decide +kernel)
theorem ci_J3_125 {C : String} : EntV g RJ3 (.invokespecial 125) 3 C mJ13_init.1 1 := entV_I (M := mJ13_init) rfl rfl rfl q734 q679 q680 ⟨by decide +kernel, by decide +kernel⟩ (by decide +kernel)
theorem ci_J3_152 {C : String} : EntV g RJ3 (.invokespecial 152) 3 C mJ34_init.1 2 := entV_I (M := mJ34_init) rfl rfl rfl q737 q738 q739 ⟨by decide +kernel, by decide +kernel⟩ (by decide +kernel)
theorem ci_J3_45 {C : String} : EntV g RJ3 (.invokespecial 45) 3 C mJ16_init.1 0 := entV_I (M := mJ16_init) rfl rfl rfl q844 q845 q846 ⟨by decide +kernel, by decide +kernel⟩ (by decide +kernel)
theorem cv_J3_46_J3 : EntV g RJ3 (.invokevirtual 46) 3 RJ3 mJ3_unlinkFirst.1 1 := entV_V (M := mJ3_unlinkFirst) q856 q858 qs6 q859 ⟨by decide +kernel, by decide +kernel⟩ (by decide +kernel)
theorem cv_J3_53_J3 : EntV g RJ3 (.invokevirtual 53) 3 RJ3 mJ3_linkFirst.1 1 := entV_V (M := mJ3_linkFirst) q913 q915 qs7 q916 ⟨by decide +kernel, by decide +kernel⟩ (by decide +kernel)
theorem ci_J3_24 {C : String} : EntV g RJ3 (.invokespecial 24) 3 C mJ20_init.1 3 := entV_I (M := mJ20_init) rfl rfl rfl q919 q920 q921 ⟨by decide +kernel, by decide +kernel⟩ (by decide +kernel)
theorem cv_J3_90_J3 : EntV g RJ3 (.invokevirtual 90) 3 RJ3 mJ3_checkElementIndex.1 1 := entV_V (M := mJ3_checkElementIndex) q955 q957 qs8 q958 ⟨by decide +kernel, by decide +kernel⟩ (by decide +kernel)
theorem cv_J3_115_J3 : EntV g RJ3 (.invokevirtual 115) 3 RJ3 mJ3_isElementIndex.1 1 := entV_V (M := mJ3_isElementIndex) q959 q961 qs9 q962 ⟨by decide +kernel, by decide +kernel⟩ (by decide +kernel)
theorem cv_J3_86_J3 : EntV g RJ3 (.invokevirtual 86) 3 RJ3 mJ3_node.1 1 := entV_V (M := mJ3_node) q963 q742 q743 q744 ⟨by decide +kernel, by decide +kernel⟩ (by decide +kernel)
theorem ci_J3_13 {C : String} : EntV g RJ3 (.invokespecial 13) 3 C mJ3_init.1 0 := entV_I (M := mJ3_init) rfl rfl rfl q1345 q232 q233 ⟨by decide +kernel, by decide +kernel⟩ (by decide +kernel)
theorem cv_J3_14_J3 : EntV g RJ3 (.invokevirtual 14) 3 RJ3 mJ3_addAll.1 1 := entV_V (M := mJ3_addAll) q1346 q1347 q1348 q1349 ⟨by decide +kernel, by decide +kernel⟩ (by decide +kernel)
theorem cv_J3_73_J3 : EntV g RJ3 (.invokevirtual 73) 3 RJ3 mJ3_addAll_2.1 2 := entV_V (M := mJ3_addAll_2) q1350 q1351 q1352 q1353 ⟨by decide +kernel, by decide +kernel⟩ (by decide +kernel)
theorem cv_J3_57_J3 : EntV g RJ3 (.invokevirtual 57) 3 RJ3 mJ3_linkLast.1 1 := entV_V (M := mJ3_linkLast) q1548 q1549 q1550 q1551 ⟨by decide +kernel, by decide +kernel⟩ (by decide +kernel)
theorem cv_J3_50_J3 : EntV g RJ3 (.invokevirtual 50) 3 RJ3 mJ3_unlinkLast.1 1 := entV_V (M := mJ3_unlinkLast) q2688 q2690 qs51 q2691 ⟨by decide +kernel, by decide +kernel⟩ (by decide +kernel)
theorem cv_J30_31_J30 : EntV g RJ30 (.invokevirtual 31) 3 RJ30 mJ30_checkForComodification.1 0 := entV_V (M := mJ30_checkForComodification) q1066 q1067 q1068 q1071 ⟨by decide +kernel, by decide +kernel⟩ (by decide +kernel)
theorem cv_J30_31_J33 : EntV g RJ30 (.invokevirtual 31) 3 RJ33 mJ30_checkForComodification.1 0 := entV_V (M := mJ30_checkForComodification) q1066 q1067 q1070 q1071 ⟨by decide +kernel, by decide +kernel⟩ (by decide +kernel)
theorem ci_J30_36 {C : String} : EntV g RJ30 (.invokespecial 36) 3 C mJ16_init.1 0 := entV_I (M := mJ16_init) rfl rfl rfl q1073 q845 q846 ⟨by decide +kernel, by decide +kernel⟩ (by decide +kernel)
theorem ci_J31_7 {C : String} : EntV g RJ31 (.invokespecial 7) 3 C mJ11_init.1 1 := entV_I (M := mJ11_init) rfl rfl rfl q2470 q633 q634 ⟨by decide +kernel, by decide +kernel⟩ (by decide +kernel)
theorem ci_J31_1 {C : String} : EntV g RJ31 (.invokespecial 1) 3 C mJ11_init_2.1 0 := entV_I (M := mJ11_init_2) rfl rfl rfl q2488 q848 q849 ⟨by decide +kernel, by decide +kernel⟩ (by decide +kernel)
theorem cv_J32_28_J26 : EntV g RJ32 (.invokevirtual 28) 3 RJ26 mJ26_size.1 0 := entV_U (M := mJ26_size) (x := ⟨"java/util/AbstractList", "size", "()I"⟩) (owner := "java/util/AbstractCollection") q799 q800 (decl_d q779) ⟨by decide +kernel, by decide +kernel⟩ q801 q788 (by decide +kernel)
theorem cv_J32_28_J3 : EntV g RJ32 (.invokevirtual 28) 3 RJ3 mJ3_size.1 0 := entV_U (M := mJ3_size) (x := ⟨"java/util/AbstractList", "size", "()I"⟩) (owner := "java/util/AbstractCollection") q799 q800 (decl_d q779) ⟨by decide +kernel, by decide +kernel⟩ q802 q791 (by decide +kernel)
theorem cv_J32_35_J26 : EntV g RJ32 (.invokevirtual 35) 3 RJ26 mJ26_get.1 1 := entV_U (M := mJ26_get) (x := ⟨"java/util/AbstractList", "get", "(I)Ljava/lang/Object;"⟩) (owner := "java/util/AbstractList") q948 q950 (decl_d q949) ⟨by decide +kernel, by decide +kernel⟩ q951 q895 (by decide +kernel)
theorem cv_J32_35_J3 : EntV g RJ32 (.invokevirtual 35) 3 RJ3 mJ3_get.1 1 := entV_U (M := mJ3_get) (x := ⟨"java/util/AbstractList", "get", "(I)Ljava/lang/Object;"⟩) (owner := "java/util/AbstractList") q948 q950 (decl_d q949) ⟨by decide +kernel, by decide +kernel⟩ q952 q953 (by decide +kernel)
theorem ci_J32_43 {C : String} : EntV g RJ32 (.invokespecial 43) 3 C mJ16_init_2.1 1 := entV_I (M := mJ16_init_2) rfl rfl rfl q965 q966 q967 ⟨by decide +kernel, by decide +kernel⟩ (by decide +kernel)
theorem ci_J33_7 {C : String} : EntV g RJ33 (.invokespecial 7) 3 C mJ30_init.1 1 := entV_I (M := mJ30_init) rfl rfl rfl q689 q690 q691 ⟨by decide +kernel, by decide +kernel⟩ (by decide +kernel)
theorem cv_J34_25_J3 : EntV g RJ34 (.invokevirtual 25) 3 RJ3 mJ3_node.1 1 := entV_V (M := mJ3_node) q741 q742 q743 q744 ⟨by decide +kernel, by decide +kernel⟩ (by decide +kernel)
theorem cv_J34_36_J34 : EntV g RJ34 (.invokevirtual 36) 3 RJ34 mJ34_checkForComodification.1 0 := entV_V (M := mJ34_checkForComodification) q1081 q1082 q1083 q1084 ⟨by decide +kernel, by decide +kernel⟩ (by decide +kernel)
theorem cv_J34_39_J34 : EntV g RJ34 (.invokevirtual 39) 3 RJ34 mJ34_hasNext.1 0 := entV_V (M := mJ34_hasNext) q1085 q815 q3293 q817 ⟨by decide +kernel, by decide +kernel⟩ (by decide +kernel)
theorem ci_J34_45 {C : String} : EntV g RJ34 (.invokespecial 45) 3 C mJ16_init.1 0 := entV_I (M := mJ16_init) rfl rfl rfl q1087 q845 q846 ⟨by decide +kernel, by decide +kernel⟩ (by decide +kernel)
theorem ci_J4_42 {C : String} : EntV g RJ4 (.invokespecial 42) 3 C mJ0_init.1 0 := entV_I (M := mJ0_init) rfl rfl rfl q270 q241 q242 ⟨by decide +kernel, by decide +kernel⟩ (by decide +kernel)
theorem cs_J4_127 : EntS g RJ4 (.invokestatic 127) 3 mJ4_sub.1 3 := entS_S (M := mJ4_sub) q784 q785 q124 q786 ⟨by decide +kernel, by decide +kernel⟩ (by decide +kernel)
theorem cv_J4_189_J4 : EntV g RJ4 (.invokevirtual 189) 3 RJ4 mJ4_toArray_2.1 1 := entV_V (M := mJ4_toArray_2) q1365 q1367 qs10 q1368 ⟨by decide +kernel, by decide +kernel⟩ (by decide +kernel)
theorem cs_J4_193 : EntS g RJ4 (.invokestatic 193) 3 mJ18_copyOfRange_2.1 4 := entS_S (M := mJ18_copyOfRange_2) q1369 q1370 q142 q1371 ⟨by decide +kernel, by decide +kernel⟩ (by decide +kernel)
theorem cs_J4_181 : EntS g RJ4 (.invokestatic 181) 3 mJ4_circularClear.1 3 := entS_S (M := mJ4_circularClear) q1428 q1429 q124 q1430 ⟨by decide +kernel, by decide +kernel⟩ (by decide +kernel)
theorem cv_J4_93_J4 : EntV g RJ4 (.invokevirtual 93) 3 RJ4 mJ4_pollFirst.1 0 := entV_V (M := mJ4_pollFirst) q1501 q1502 q1503 q1504 ⟨by decide +kernel, by decide +kernel⟩ (by decide +kernel)
theorem cs_J4_103 : EntS g RJ4 (.invokestatic 103) 3 mJ4_elementAt.1 2 := entS_S (M := mJ4_elementAt) q1505 q1506 q124 q1507 ⟨by decide +kernel, by decide +kernel⟩ (by decide +kernel)
theorem cs_J4_74 : EntS g RJ4 (.invokestatic 74) 3 mJ4_inc.1 2 := entS_S (M := mJ4_inc) q1508 q1509 q124 q1510 ⟨by decide +kernel, by decide +kernel⟩ (by decide +kernel)
theorem ci_J4_99 {C : String} : EntV g RJ4 (.invokespecial 99) 3 C mJ16_init.1 0 := entV_I (M := mJ16_init) rfl rfl rfl q1512 q845 q846 ⟨by decide +kernel, by decide +kernel⟩ (by decide +kernel)
theorem cv_J4_71_J4 : EntV g RJ4 (.invokevirtual 71) 3 RJ4 mJ4_grow.1 1 := entV_V (M := mJ4_grow) q1517 q1519 qs13 q1520 ⟨by decide +kernel, by decide +kernel⟩ (by decide +kernel)
theorem cv_J4_10_J4 : EntV g RJ4 (.invokevirtual 10) 3 RJ4 mJ4_newCapacity.1 2 := entV_V (M := mJ4_newCapacity) q1522 q1524 qs14 q1525 ⟨by decide +kernel, by decide +kernel⟩ (by decide +kernel)
theorem ci_J4_37 {C : String} : EntV g RJ4 (.invokespecial 37) 3 C mJ17_init.1 1 := entV_I (M := mJ17_init) rfl rfl rfl q1536 q1537 q1538 ⟨by decide +kernel, by decide +kernel⟩ (by decide +kernel)
theorem cs_J4_14 : EntS g RJ4 (.invokestatic 14) 3 mJ18_copyOf_2.1 2 := entS_S (M := mJ18_copyOf_2) q1543 q1382 q142 q1383 ⟨by decide +kernel, by decide +kernel⟩ (by decide +kernel)
theorem cv_J4_100_J4 : EntV g RJ4 (.invokevirtual 100) 3 RJ4 mJ4_pollLast.1 0 := entV_V (M := mJ4_pollLast) q2677 q2678 q2679 q2680 ⟨by decide +kernel, by decide +kernel⟩ (by decide +kernel)
theorem cs_J4_68 : EntS g RJ4 (.invokestatic 68) 3 mJ4_dec.1 2 := entS_S (M := mJ4_dec) q2681 q2682 q124 q2683 ⟨by decide +kernel, by decide +kernel⟩ (by decide +kernel)
theorem cs_J5_26 : EntS g RJ5 (.invokestatic 26) 3 mJ8_newBytesFor.1 1 := entS_S (M := mJ8_newBytesFor) q294 q295 q128 q296 ⟨by decide +kernel, by decide +kernel⟩ (by decide +kernel)
theorem cs_J5_114 : EntS g RJ5 (.invokestatic 114) 3 mJ25_newLength.1 3 := entS_S (M := mJ25_newLength) q451 q452 q150 q453 ⟨by decide +kernel, by decide +kernel⟩ (by decide +kernel)
theorem cs_J5_108 : EntS g RJ5 (.invokestatic 108) 3 mJ18_copyOf.1 2 := entS_S (M := mJ18_copyOf) q462 q463 q142 q464 ⟨by decide +kernel, by decide +kernel⟩ (by decide +kernel)
theorem cv_J5_83_J6 : EntV g RJ5 (.invokevirtual 83) 3 RJ6 mJ5_isLatin1.1 0 := entV_V (M := mJ5_isLatin1) q478 q479 q481 q482 ⟨by decide +kernel, by decide +kernel⟩ (by decide +kernel)
theorem cs_J5_226 : EntS g RJ5 (.invokestatic 226) 3 mJ8_putCharsAt.1 6 := entS_S (M := mJ8_putCharsAt) q483 q484 q128 q485 ⟨by decide +kernel, by decide +kernel⟩ (by decide +kernel)
theorem cv_J5_32_J7 : EntV g RJ5 (.invokevirtual 32) 3 RJ7 mJ7_length.1 0 := entV_V (M := mJ7_length) q509 q510 q511 q512 ⟨by decide +kernel, by decide +kernel⟩ (by decide +kernel)
theorem cv_J5_40_J7 : EntV g RJ5 (.invokevirtual 40) 3 RJ7 mJ7_coder.1 0 := entV_V (M := mJ7_coder) q526 q514 q515 q516 ⟨by decide +kernel, by decide +kernel⟩ (by decide +kernel)
theorem cs_J5_125 : EntS g RJ5 (.invokestatic 125) 3 mJ23_inflate.1 5 := entS_S (M := mJ23_inflate) q531 q532 q148 q533 ⟨by decide +kernel, by decide +kernel⟩ (by decide +kernel)
theorem cv_J5_399_J7 : EntV g RJ5 (.invokevirtual 399) 3 RJ7 mJ7_getBytes.1 3 := entV_V (M := mJ7_getBytes) q546 q547 q548 q549 ⟨by decide +kernel, by decide +kernel⟩ (by decide +kernel)
theorem cs_J5_245 : EntS g RJ5 (.invokestatic 245) 3 mJ28_stringSize.1 1 := entS_S (M := mJ28_stringSize) q559 q560 q160 q561 ⟨by decide +kernel, by decide +kernel⟩ (by decide +kernel)
theorem cs_J5_248 : EntS g RJ5 (.invokestatic 248) 3 mJ28_getChars.1 3 := entS_S (M := mJ28_getChars) q562 q563 q160 q564 ⟨by decide +kernel, by decide +kernel⟩ (by decide +kernel)
theorem cs_J5_251 : EntS g RJ5 (.invokestatic 251) 3 mJ8_getChars.1 4 := entS_S (M := mJ8_getChars) q569 q570 q128 q571 ⟨by decide +kernel, by decide +kernel⟩ (by decide +kernel)
theorem cs_J5_191 : EntS g RJ5 (.invokestatic 191) 3 mJ23_canEncode.1 1 := entS_S (M := mJ23_canEncode) q1285 q1286 q148 q1287 ⟨by decide +kernel, by decide +kernel⟩ (by decide +kernel)
theorem cs_J5_197 : EntS g RJ5 (.invokestatic 197) 3 mJ8_putCharSB.1 3 := entS_S (M := mJ8_putCharSB) q1288 q1289 q128 q1290 ⟨by decide +kernel, by decide +kernel⟩ (by decide +kernel)
theorem cs_J5_138 : EntS g RJ5 (.invokestatic 138) 3 mJ19_min.1 2 := entS_S (M := mJ19_min) q1671 q473 q143 q474 ⟨by decide +kernel, by decide +kernel⟩ (by decide +kernel)
theorem cs_J5_144 : EntS g RJ5 (.invokestatic 144) 3 mJ7_checkIndex.1 2 := entS_S (M := mJ7_checkIndex) q1672 q1211 q127 q1212 ⟨by decide +kernel, by decide +kernel⟩ (by decide +kernel)
theorem cs_J5_148 : EntS g RJ5 (.invokestatic 148) 3 mJ8_getChar.1 2 := entS_S (M := mJ8_getChar) q1673 q661 q128 q662 ⟨by decide +kernel, by decide +kernel⟩ (by decide +kernel)
theorem cv_J5_300_J6 : EntV g RJ5 (.invokevirtual 300) 3 RJ6 mJ6_substring.1 2 := entV_U (M := mJ6_substring) (x := ⟨"java/lang/AbstractStringBuilder", "substring", "(II)Ljava/lang/String;"⟩) (owner := "java/lang/AbstractStringBuilder") q1873 q1875 (decl_m (M0 := mJ5_substring) q1874 q1880) ⟨by decide +kernel, by decide +kernel⟩ q1876 q1877 (by decide +kernel)
theorem cs_J5_161 : EntS g RJ5 (.invokestatic 161) 3 mJ22_checkFromToIndex.1 4 := entS_S (M := mJ22_checkFromToIndex) q1882 q498 q147 q499 ⟨by decide +kernel, by decide +kernel⟩ (by decide +kernel)
theorem cs_J5_304 : EntS g RJ5 (.invokestatic 304) 3 mJ23_newString.1 3 := entS_S (M := mJ23_newString) q1883 q1848 q148 q1849 ⟨by decide +kernel, by decide +kernel⟩ (by decide +kernel)
theorem cs_J5_308 : EntS g RJ5 (.invokestatic 308) 3 mJ8_newString.1 3 := entS_S (M := mJ8_newString) q1884 q1857 q128 q1858 ⟨by decide +kernel, by decide +kernel⟩ (by decide +kernel)
theorem ci_J6_1 {C : String} : EntV g RJ6 (.invokespecial 1) 3 C mJ5_init.1 1 := entV_I (M := mJ5_init) rfl rfl rfl q288 q289 q290 ⟨by decide +kernel, by decide +kernel⟩ (by decide +kernel)
theorem cu_J6_29 {C : String} : EntV g RJ6 (.invokespecial 29) 3 C mJ5_append.1 1 := entV_SU (M := mJ5_append) q436 q3284 q313 q437 q438 (by decide +kernel) (by decide +kernel)
theorem cu_J6_53 {C : String} : EntV g RJ6 (.invokespecial 53) 3 C mJ5_append_2.1 1 := entV_SU (M := mJ5_append_2) q556 q3291 q313 q557 q558 (by decide +kernel) (by decide +kernel)
theorem ci_J6_137 {C : String} : EntV g RJ6 (.invokespecial 137) 3 C mJ7_init.1 1 := entV_I (M := mJ7_init) rfl rfl rfl q584 q585 q586 ⟨by decide +kernel, by decide +kernel⟩ (by decide +kernel)
theorem cu_J6_343 {C : String} : EntV g RJ6 (.invokespecial 343) 3 C mJ5_length.1 0 := entV_SU (M := mJ5_length) q602 q598 q313 q597 q603 (by decide +kernel) (by decide +kernel)
theorem cu_J6_50 {C : String} : EntV g RJ6 (.invokespecial 50) 3 C mJ5_append_3.1 1 := entV_SU (M := mJ5_append_3) q1282 q3297 q313 q1283 q1284 (by decide +kernel) (by decide +kernel)
theorem cu_J6_329 {C : String} : EntV g RJ6 (.invokespecial 329) 3 C mJ5_charAt.1 1 := entV_SU (M := mJ5_charAt) q1668 q3300 q313 q1669 q1670 (by decide +kernel) (by decide +kernel)
theorem cu_J6_256 {C : String} : EntV g RJ6 (.invokespecial 256) 3 C mJ5_subSequence.1 2 := entV_SU (M := mJ5_subSequence) q1870 q3301 q313 q1871 q1872 (by decide +kernel) (by decide +kernel)
theorem cu_J6_252 {C : String} : EntV g RJ6 (.invokespecial 252) 3 C mJ5_substring.1 2 := entV_SU (M := mJ5_substring) q1879 q1875 q313 q1874 q1880 (by decide +kernel) (by decide +kernel)
theorem cs_J7_1062 : EntS g RJ7 (.invokestatic 1062) 3 mJ22_checkFromToIndex.1 4 := entS_S (M := mJ22_checkFromToIndex) q497 q498 q147 q499 ⟨by decide +kernel, by decide +kernel⟩ (by decide +kernel)
theorem cv_J7_335_J7 : EntV g RJ7 (.invokevirtual 335) 3 RJ7 mJ7_coder.1 0 := entV_V (M := mJ7_coder) q513 q514 q515 q516 ⟨by decide +kernel, by decide +kernel⟩ (by decide +kernel)
theorem cs_J7_1065 : EntS g RJ7 (.invokestatic 1065) 3 mJ22_checkFromIndexSize.1 4 := entS_S (M := mJ22_checkFromIndexSize) q543 q544 q147 q545 ⟨by decide +kernel, by decide +kernel⟩ (by decide +kernel)
theorem cs_J7_106 : EntS g RJ7 (.invokestatic 106) 3 mJ23_inflate.1 5 := entS_S (M := mJ23_inflate) q551 q532 q148 q533 ⟨by decide +kernel, by decide +kernel⟩ (by decide +kernel)
theorem ci_J7_489 {C : String} : EntV g RJ7 (.invokespecial 489) 3 C mJ7_init_2.1 2 := entV_I (M := mJ7_init_2) rfl rfl rfl q587 q588 q589 ⟨by decide +kernel, by decide +kernel⟩ (by decide +kernel)
theorem cv_J7_552_J6 : EntV g RJ7 (.invokevirtual 552) 3 RJ6 mJ5_getValue.1 0 := entV_V (M := mJ5_getValue) q591 q592 q594 q595 ⟨by decide +kernel, by decide +kernel⟩ (by decide +kernel)
theorem cv_J7_549_J6 : EntV g RJ7 (.invokevirtual 549) 3 RJ6 mJ6_length.1 0 := entV_U (M := mJ6_length) (x := ⟨"java/lang/AbstractStringBuilder", "length", "()I"⟩) (owner := "java/lang/AbstractStringBuilder") q596 q598 (decl_m (M0 := mJ5_length) q597 q603) ⟨by decide +kernel, by decide +kernel⟩ q599 q600 (by decide +kernel)
theorem cv_J7_1047_J6 : EntV g RJ7 (.invokevirtual 1047) 3 RJ6 mJ5_isLatin1.1 0 := entV_V (M := mJ5_isLatin1) q604 q479 q481 q482 ⟨by decide +kernel, by decide +kernel⟩ (by decide +kernel)
theorem cs_J7_54 : EntS g RJ7 (.invokestatic 54) 3 mJ18_copyOfRange.1 3 := entS_S (M := mJ18_copyOfRange) q605 q606 q142 q607 ⟨by decide +kernel, by decide +kernel⟩ (by decide +kernel)
theorem cs_J7_1051 : EntS g RJ7 (.invokestatic 1051) 3 mJ8_compress.1 3 := entS_S (M := mJ8_compress) q654 q655 q128 q656 ⟨by decide +kernel, by decide +kernel⟩ (by decide +kernel)
theorem cs_J7_47 : EntS g RJ7 (.invokestatic 47) 3 mJ8_coderFromArrayLen.1 2 := entS_S (M := mJ8_coderFromArrayLen) q664 q665 q128 q666 ⟨by decide +kernel, by decide +kernel⟩ (by decide +kernel)
theorem cv_J7_492_J7 : EntV g RJ7 (.invokevirtual 492) 3 RJ7 mJ7_isLatin1.1 0 := entV_V (M := mJ7_isLatin1) q1203 q1204 q1205 q1206 ⟨by decide +kernel, by decide +kernel⟩ (by decide +kernel)
theorem cs_J7_495 : EntS g RJ7 (.invokestatic 495) 3 mJ23_charAt.1 2 := entS_S (M := mJ23_charAt) q1207 q1208 q148 q1209 ⟨by decide +kernel, by decide +kernel⟩ (by decide +kernel)
theorem cs_J7_1059 : EntS g RJ7 (.invokestatic 1059) 3 mJ22_checkIndex.1 3 := entS_S (M := mJ22_checkIndex) q1213 q902 q147 q903 ⟨by decide +kernel, by decide +kernel⟩ (by decide +kernel)
theorem cs_J7_498 : EntS g RJ7 (.invokestatic 498) 3 mJ8_charAt.1 2 := entS_S (M := mJ8_charAt) q1214 q1215 q128 q1216 ⟨by decide +kernel, by decide +kernel⟩ (by decide +kernel)
theorem cs_J7_541 : EntS g RJ7 (.invokestatic 541) 3 mJ23_equals.1 2 := entS_S (M := mJ23_equals) q1328 q1329 q148 q1330 ⟨by decide +kernel, by decide +kernel⟩ (by decide +kernel)
theorem cv_J7_633_J7 : EntV g RJ7 (.invokevirtual 633) 3 RJ7 mJ7_indexOf_2.1 2 := entV_V (M := mJ7_indexOf_2) q1782 q1783 q1784 q1785 ⟨by decide +kernel, by decide +kernel⟩ (by decide +kernel)
theorem cv_J7_505_J7 : EntV g RJ7 (.invokevirtual 505) 3 RJ7 mJ7_length.1 0 := entV_V (M := mJ7_length) q1786 q510 q511 q512 ⟨by decide +kernel, by decide +kernel⟩ (by decide +kernel)
theorem cs_J7_637 : EntS g RJ7 (.invokestatic 637) 3 mJ23_indexOf.1 4 := entS_S (M := mJ23_indexOf) q1787 q1788 q148 q1789 ⟨by decide +kernel, by decide +kernel⟩ (by decide +kernel)
theorem cs_J7_640 : EntS g RJ7 (.invokestatic 640) 3 mJ8_indexOf.1 4 := entS_S (M := mJ8_indexOf) q1798 q1799 q128 q1800 ⟨by decide +kernel, by decide +kernel⟩ (by decide +kernel)
theorem cv_J7_681_J7 : EntV g RJ7 (.invokevirtual 681) 3 RJ7 mJ7_substring.1 2 := entV_V (M := mJ7_substring) q1842 q1843 q1844 q1845 ⟨by decide +kernel, by decide +kernel⟩ (by decide +kernel)
theorem cs_J7_521 : EntS g RJ7 (.invokestatic 521) 3 mJ7_checkBoundsBeginEnd.1 3 := entS_S (M := mJ7_checkBoundsBeginEnd) q1846 q493 q127 q494 ⟨by decide +kernel, by decide +kernel⟩ (by decide +kernel)
theorem cs_J7_685 : EntS g RJ7 (.invokestatic 685) 3 mJ23_newString.1 3 := entS_S (M := mJ23_newString) q1847 q1848 q148 q1849 ⟨by decide +kernel, by decide +kernel⟩ (by decide +kernel)
theorem cs_J7_689 : EntS g RJ7 (.invokestatic 689) 3 mJ8_newString.1 3 := entS_S (M := mJ8_newString) q1856 q1857 q128 q1858 ⟨by decide +kernel, by decide +kernel⟩ (by decide +kernel)
theorem cs_J8_11 : EntS g RJ8 (.invokestatic 11) 3 mJ8_newBytesLength.1 1 := entS_S (M := mJ8_newBytesLength) q297 q298 q128 q299 ⟨by decide +kernel, by decide +kernel⟩ (by decide +kernel)
theorem cs_J8_96 : EntS g RJ8 (.invokestatic 96) 3 mJ8_checkBoundsBeginEnd.1 3 := entS_S (M := mJ8_checkBoundsBeginEnd) q486 q487 q128 q488 ⟨by decide +kernel, by decide +kernel⟩ (by decide +kernel)
theorem cs_J8_48 : EntS g RJ8 (.invokestatic 48) 3 mJ8_length.1 1 := entS_S (M := mJ8_length) q489 q490 q128 q491 ⟨by decide +kernel, by decide +kernel⟩ (by decide +kernel)
theorem cs_J8_241 : EntS g RJ8 (.invokestatic 241) 3 mJ7_checkBoundsBeginEnd.1 3 := entS_S (M := mJ7_checkBoundsBeginEnd) q492 q493 q127 q494 ⟨by decide +kernel, by decide +kernel⟩ (by decide +kernel)
theorem cs_J8_111 : EntS g RJ8 (.invokestatic 111) 3 mJ8_putChar.1 3 := entS_S (M := mJ8_putChar) q500 q501 q128 q502 ⟨by decide +kernel, by decide +kernel⟩ (by decide +kernel)
theorem cs_J8_173 : EntS g RJ8 (.invokestatic 173) 3 mJ8_checkBoundsOffCount.1 3 := entS_S (M := mJ8_checkBoundsOffCount) q537 q538 q128 q539 ⟨by decide +kernel, by decide +kernel⟩ (by decide +kernel)
theorem cs_J8_419 : EntS g RJ8 (.invokestatic 419) 3 mJ7_checkBoundsOffCount.1 3 := entS_S (M := mJ7_checkBoundsOffCount) q540 q541 q127 q542 ⟨by decide +kernel, by decide +kernel⟩ (by decide +kernel)
theorem cs_J8_393 : EntS g RJ8 (.invokestatic 393) 3 mJ8_getChars_2.1 3 := entS_S (M := mJ8_getChars_2) q572 q573 q128 q574 ⟨by decide +kernel, by decide +kernel⟩ (by decide +kernel)
theorem cs_J8_123 : EntS g RJ8 (.invokestatic 123) 3 mJ8_compress_2.1 5 := entS_S (M := mJ8_compress_2) q657 q658 q128 q659 ⟨by decide +kernel, by decide +kernel⟩ (by decide +kernel)
theorem cs_J8_71 : EntS g RJ8 (.invokestatic 71) 3 mJ8_getChar.1 2 := entS_S (M := mJ8_getChar) q660 q661 q128 q662 ⟨by decide +kernel, by decide +kernel⟩ (by decide +kernel)
theorem cs_J8_126 : EntS g RJ8 (.invokestatic 126) 3 mJ18_copyOfRange.1 3 := entS_S (M := mJ18_copyOfRange) q663 q606 q142 q607 ⟨by decide +kernel, by decide +kernel⟩ (by decide +kernel)
theorem cs_J8_67 : EntS g RJ8 (.invokestatic 67) 3 mJ8_checkIndex.1 2 := entS_S (M := mJ8_checkIndex) q1217 q1218 q128 q1219 ⟨by decide +kernel, by decide +kernel⟩ (by decide +kernel)
theorem cs_J8_414 : EntS g RJ8 (.invokestatic 414) 3 mJ7_checkIndex.1 2 := entS_S (M := mJ7_checkIndex) q1220 q1211 q127 q1212 ⟨by decide +kernel, by decide +kernel⟩ (by decide +kernel)
theorem cs_J8_224 : EntS g RJ8 (.invokestatic 224) 3 mJ19_max.1 2 := entS_S (M := mJ19_max) q1801 q455 q143 q456 ⟨by decide +kernel, by decide +kernel⟩ (by decide +kernel)
theorem cs_J8_183 : EntS g RJ8 (.invokestatic 183) 3 mJ19_min.1 2 := entS_S (M := mJ19_min) q1802 q473 q143 q474 ⟨by decide +kernel, by decide +kernel⟩ (by decide +kernel)
theorem cs_J8_228 : EntS g RJ8 (.invokestatic 228) 3 mJ8_indexOfChar.1 4 := entS_S (M := mJ8_indexOfChar) q1804 q1805 q128 q1806 ⟨by decide +kernel, by decide +kernel⟩ (by decide +kernel)
theorem cs_J8_244 : EntS g RJ8 (.invokestatic 244) 3 mJ8_indexOfCharUnsafe.1 4 := entS_S (M := mJ8_indexOfCharUnsafe) q1807 q1808 q128 q1809 ⟨by decide +kernel, by decide +kernel⟩ (by decide +kernel)
theorem cs_J8_232 : EntS g RJ8 (.invokestatic 232) 3 mJ8_indexOfSupplementary.1 4 := entS_S (M := mJ8_indexOfSupplementary) q1810 q1811 q128 q1812 ⟨by decide +kernel, by decide +kernel⟩ (by decide +kernel)
theorem cs_J8_164 : EntS g RJ8 (.invokestatic 164) 3 mJ29_isValidCodePoint.1 1 := entS_S (M := mJ29_isValidCodePoint) q1813 q1814 q162 q1815 ⟨by decide +kernel, by decide +kernel⟩ (by decide +kernel)
theorem cs_J8_157 : EntS g RJ8 (.invokestatic 157) 3 mJ29_highSurrogate.1 1 := entS_S (M := mJ29_highSurrogate) q1816 q1817 q162 q1818 ⟨by decide +kernel, by decide +kernel⟩ (by decide +kernel)
theorem cs_J8_161 : EntS g RJ8 (.invokestatic 161) 3 mJ29_lowSurrogate.1 1 := entS_S (M := mJ29_lowSurrogate) q1820 q1821 q162 q1822 ⟨by decide +kernel, by decide +kernel⟩ (by decide +kernel)
theorem cs_J8_257 : EntS g RJ8 (.invokestatic 257) 3 mJ8_compress.1 3 := entS_S (M := mJ8_compress) q1861 q655 q128 q656 ⟨by decide +kernel, by decide +kernel⟩ (by decide +kernel)
theorem cs_J8_259 : EntS g RJ8 (.invokestatic 259) 3 mJ8_coderFromArrayLen.1 2 := entS_S (M := mJ8_coderFromArrayLen) q1862 q665 q128 q666 ⟨by decide +kernel, by decide +kernel⟩ (by decide +kernel)
theorem ci_J8_263 {C : String} : EntV g RJ8 (.invokespecial 263) 3 C mJ7_init_3.1 2 := entV_I (M := mJ7_init_3) rfl rfl rfl q1864 q1854 q1855 ⟨by decide +kernel, by decide +kernel⟩ (by decide +kernel)
theorem cv_J9_35_J12 : EntV g RJ9 (.invokevirtual 35) 3 RJ12 mJ9_toString.1 0 := entV_V (M := mJ9_toString) q977 q978 q984 q989 ⟨by decide +kernel, by decide +kernel⟩ (by decide +kernel)
theorem cv_J9_35_J13 : EntV g RJ9 (.invokevirtual 35) 3 RJ13 mJ9_toString.1 0 := entV_V (M := mJ9_toString) q977 q978 q986 q989 ⟨by decide +kernel, by decide +kernel⟩ (by decide +kernel)
theorem cv_J9_35_J14 : EntV g RJ9 (.invokevirtual 35) 3 RJ14 mJ9_toString.1 0 := entV_V (M := mJ9_toString) q977 q978 q983 q989 ⟨by decide +kernel, by decide +kernel⟩ (by decide +kernel)
theorem cv_J9_35_J16 : EntV g RJ9 (.invokevirtual 35) 3 RJ16 mJ9_toString.1 0 := entV_V (M := mJ9_toString) q977 q978 q988 q989 ⟨by decide +kernel, by decide +kernel⟩ (by decide +kernel)
theorem cv_J9_35_J17 : EntV g RJ9 (.invokevirtual 35) 3 RJ17 mJ9_toString.1 0 := entV_V (M := mJ9_toString) q977 q978 q985 q989 ⟨by decide +kernel, by decide +kernel⟩ (by decide +kernel)
theorem cv_J9_35_J24 : EntV g RJ9 (.invokevirtual 35) 3 RJ24 mJ9_toString.1 0 := entV_V (M := mJ9_toString) q977 q978 q987 q989 ⟨by decide +kernel, by decide +kernel⟩ (by decide +kernel)
theorem cv_J9_35_J31 : EntV g RJ9 (.invokevirtual 35) 3 RJ31 mJ9_toString.1 0 := entV_V (M := mJ9_toString) q977 q978 q982 q989 ⟨by decide +kernel, by decide +kernel⟩ (by decide +kernel)
theorem cv_J9_35_X17 : EntV g RJ9 (.invokevirtual 35) 3 RX17 mJ9_toString.1 0 := entV_V (M := mJ9_toString) q977 q978 q980 q989 ⟨by decide +kernel, by decide +kernel⟩ (by decide +kernel)
theorem cv_J9_35_X7 : EntV g RJ9 (.invokevirtual 35) 3 RX7 mJ9_toString.1 0 := entV_V (M := mJ9_toString) q977 q978 q981 q989 ⟨by decide +kernel, by decide +kernel⟩ (by decide +kernel)
theorem cv_J9_78_J12 : EntV g RJ9 (.invokevirtual 78) 3 RJ12 mJ9_getLocalizedMessage.1 0 := entV_V (M := mJ9_getLocalizedMessage) q1030 q1031 q1037 q1042 ⟨by decide +kernel, by decide +kernel⟩ (by decide +kernel)
theorem cv_J9_78_J13 : EntV g RJ9 (.invokevirtual 78) 3 RJ13 mJ9_getLocalizedMessage.1 0 := entV_V (M := mJ9_getLocalizedMessage) q1030 q1031 q1039 q1042 ⟨by decide +kernel, by decide +kernel⟩ (by decide +kernel)
theorem cv_J9_78_J14 : EntV g RJ9 (.invokevirtual 78) 3 RJ14 mJ9_getLocalizedMessage.1 0 := entV_V (M := mJ9_getLocalizedMessage) q1030 q1031 q1036 q1042 ⟨by decide +kernel, by decide +kernel⟩ (by decide +kernel)
theorem cv_J9_78_J16 : EntV g RJ9 (.invokevirtual 78) 3 RJ16 mJ9_getLocalizedMessage.1 0 := entV_V (M := mJ9_getLocalizedMessage) q1030 q1031 q1041 q1042 ⟨by decide +kernel, by decide +kernel⟩ (by decide +kernel)
theorem cv_J9_78_J17 : EntV g RJ9 (.invokevirtual 78) 3 RJ17 mJ9_getLocalizedMessage.1 0 := entV_V (M := mJ9_getLocalizedMessage) q1030 q1031 q1038 q1042 ⟨by decide +kernel, by decide +kernel⟩ (by decide +kernel)
theorem cv_J9_78_J24 : EntV g RJ9 (.invokevirtual 78) 3 RJ24 mJ9_getLocalizedMessage.1 0 := entV_V (M := mJ9_getLocalizedMessage) q1030 q1031 q1040 q1042 ⟨by decide +kernel, by decide +kernel⟩ (by decide +kernel)
theorem cv_J9_78_J31 : EntV g RJ9 (.invokevirtual 78) 3 RJ31 mJ9_getLocalizedMessage.1 0 := entV_V (M := mJ9_getLocalizedMessage) q1030 q1031 q1035 q1042 ⟨by decide +kernel, by decide +kernel⟩ (by decide +kernel)
theorem cv_J9_78_X17 : EntV g RJ9 (.invokevirtual 78) 3 RX17 mJ9_getLocalizedMessage.1 0 := entV_V (M := mJ9_getLocalizedMessage) q1030 q1031 q1033 q1042 ⟨by decide +kernel, by decide +kernel⟩ (by decide +kernel)
theorem cv_J9_78_X7 : EntV g RJ9 (.invokevirtual 78) 3 RX7 mJ9_getLocalizedMessage.1 0 := entV_V (M := mJ9_getLocalizedMessage) q1030 q1031 q1034 q1042 ⟨by decide +kernel, by decide +kernel⟩ (by decide +kernel)
theorem cv_J9_39_J12 : EntV g RJ9 (.invokevirtual 39) 3 RJ12 mJ9_getMessage.1 0 := entV_V (M := mJ9_getMessage) q1043 q1044 q1050 q1055 ⟨by decide +kernel, by decide +kernel⟩ (by decide +kernel)
theorem cv_J9_39_J13 : EntV g RJ9 (.invokevirtual 39) 3 RJ13 mJ9_getMessage.1 0 := entV_V (M := mJ9_getMessage) q1043 q1044 q1052 q1055 ⟨by decide +kernel, by decide +kernel⟩ (by decide +kernel)
theorem cv_J9_39_J14 : EntV g RJ9 (.invokevirtual 39) 3 RJ14 mJ9_getMessage.1 0 := entV_V (M := mJ9_getMessage) q1043 q1044 q1049 q1055 ⟨by decide +kernel, by decide +kernel⟩ (by decide +kernel)
theorem cv_J9_39_J16 : EntV g RJ9 (.invokevirtual 39) 3 RJ16 mJ9_getMessage.1 0 := entV_V (M := mJ9_getMessage) q1043 q1044 q1054 q1055 ⟨by decide +kernel, by decide +kernel⟩ (by decide +kernel)
theorem cv_J9_39_J17 : EntV g RJ9 (.invokevirtual 39) 3 RJ17 mJ9_getMessage.1 0 := entV_V (M := mJ9_getMessage) q1043 q1044 q1051 q1055 ⟨by decide +kernel, by decide +kernel⟩ (by decide +kernel)
theorem cv_J9_39_J24 : EntV g RJ9 (.invokevirtual 39) 3 RJ24 mJ9_getMessage.1 0 := entV_V (M := mJ9_getMessage) q1043 q1044 q1053 q1055 ⟨by decide +kernel, by decide +kernel⟩ (by decide +kernel)
theorem cv_J9_39_J31 : EntV g RJ9 (.invokevirtual 39) 3 RJ31 mJ9_getMessage.1 0 := entV_V (M := mJ9_getMessage) q1043 q1044 q1048 q1055 ⟨by decide +kernel, by decide +kernel⟩ (by decide +kernel)
theorem cv_J9_39_X17 : EntV g RJ9 (.invokevirtual 39) 3 RX17 mJ9_getMessage.1 0 := entV_V (M := mJ9_getMessage) q1043 q1044 q1046 q1055 ⟨by decide +kernel, by decide +kernel⟩ (by decide +kernel)
theorem cv_J9_39_X7 : EntV g RJ9 (.invokevirtual 39) 3 RX7 mJ9_getMessage.1 0 := entV_V (M := mJ9_getMessage) q1043 q1044 q1047 q1055 ⟨by decide +kernel, by decide +kernel⟩ (by decide +kernel)
theorem ci_J9_46 {C : String} : EntV g RJ9 (.invokespecial 46) 3 C mJ6_init.1 0 := entV_I (M := mJ6_init) rfl rfl rfl q1057 q286 q287 ⟨by decide +kernel, by decide +kernel⟩ (by decide +kernel)
theorem cv_J9_49_J6 : EntV g RJ9 (.invokevirtual 49) 3 RJ6 mJ6_append.1 1 := entV_V (M := mJ6_append) q1058 q433 q434 q435 ⟨by decide +kernel, by decide +kernel⟩ (by decide +kernel)
theorem cv_J9_60_J6 : EntV g RJ9 (.invokevirtual 60) 3 RJ6 mJ6_toString.1 0 := entV_V (M := mJ6_toString) q1060 q579 q580 q581 ⟨by decide +kernel, by decide +kernel⟩ (by decide +kernel)
theorem ci_X0_110 {C : String} : EntV g RX0 (.invokespecial 110) 3 C mX1_init.1 0 := entV_I (M := mX1_init) rfl rfl rfl q179 q180 q181 ⟨by decide +kernel, by decide +kernel⟩ (by decide +kernel)
theorem cv_X0_200_X1 : EntV g RX0 (.invokevirtual 200) 3 RX1 mX1_reason.1 0 := entV_V (M := mX1_reason) q347 q348 q349 q350 ⟨by decide +kernel, by decide +kernel⟩ (by decide +kernel)
theorem cv_X0_207_X1 : EntV g RX0 (.invokevirtual 207) 3 RX1 mX1_isReplayed.1 0 := entV_V (M := mX1_isReplayed) q351 q352 q353 q354 ⟨by decide +kernel, by decide +kernel⟩ (by decide +kernel)
theorem cv_X0_212_X1 : EntV g RX0 (.invokevirtual 212) 3 RX1 mX1_snapshot.1 0 := entV_V (M := mX1_snapshot) q1331 q1332 q1333 q1334 ⟨by decide +kernel, by decide +kernel⟩ (by decide +kernel)
theorem cs_X0_114 : EntS g RX0 (.invokestatic 114) 3 mX0_stage.1 4 := entS_S (M := mX0_stage) q1399 q1400 q117 q1401 ⟨by decide +kernel, by decide +kernel⟩ (by decide +kernel)
theorem cv_X0_7_X1 : EntV g RX0 (.invokevirtual 7) 3 RX1 mX1_stage.1 2 := entV_V (M := mX1_stage) q1403 q1404 q1405 q1406 ⟨by decide +kernel, by decide +kernel⟩ (by decide +kernel)
theorem cs_X0_123 : EntS g RX0 (.invokestatic 123) 3 mX0_place.1 4 := entS_S (M := mX0_place) q1435 q1436 q117 q1437 ⟨by decide +kernel, by decide +kernel⟩ (by decide +kernel)
theorem cv_X0_15_X1 : EntV g RX0 (.invokevirtual 15) 3 RX1 mX1_place.1 2 := entV_V (M := mX1_place) q1454 q1455 q1456 q1457 ⟨by decide +kernel, by decide +kernel⟩ (by decide +kernel)
theorem cs_X0_126 : EntS g RX0 (.invokestatic 126) 3 mX0_append.1 3 := entS_S (M := mX0_append) q1552 q1553 q117 q1554 ⟨by decide +kernel, by decide +kernel⟩ (by decide +kernel)
theorem cv_X0_20_X1 : EntV g RX0 (.invokevirtual 20) 3 RX1 mX1_append.1 1 := entV_V (M := mX1_append) q1556 q1557 q1558 q1559 ⟨by decide +kernel, by decide +kernel⟩ (by decide +kernel)
theorem cs_X0_130 : EntS g RX0 (.invokestatic 130) 3 mX0_read.1 2 := entS_S (M := mX0_read) q1582 q1583 q117 q1584 ⟨by decide +kernel, by decide +kernel⟩ (by decide +kernel)
theorem cv_X0_26_X1 : EntV g RX0 (.invokevirtual 26) 3 RX1 mX1_read.1 0 := entV_V (M := mX1_read) q1585 q1586 q1587 q1588 ⟨by decide +kernel, by decide +kernel⟩ (by decide +kernel)
theorem cs_X0_134 : EntS g RX0 (.invokestatic 134) 3 mX0_errorPosition.1 2 := entS_S (M := mX0_errorPosition) q2097 q2098 q117 q2099 ⟨by decide +kernel, by decide +kernel⟩ (by decide +kernel)
theorem cv_X0_30_X1 : EntV g RX0 (.invokevirtual 30) 3 RX1 mX1_errorPosition.1 0 := entV_V (M := mX1_errorPosition) q2101 q2102 q2103 q2104 ⟨by decide +kernel, by decide +kernel⟩ (by decide +kernel)
theorem cs_X0_137 : EntS g RX0 (.invokestatic 137) 3 mX0_refusedDancer.1 2 := entS_S (M := mX0_refusedDancer) q2110 q2111 q117 q2112 ⟨by decide +kernel, by decide +kernel⟩ (by decide +kernel)
theorem cv_X0_35_X1 : EntV g RX0 (.invokevirtual 35) 3 RX1 mX1_refusedDancer.1 0 := entV_V (M := mX1_refusedDancer) q2113 q2114 q2115 q2116 ⟨by decide +kernel, by decide +kernel⟩ (by decide +kernel)
theorem cs_X0_140 : EntS g RX0 (.invokestatic 140) 3 mX0_write.1 2 := entS_S (M := mX0_write) q2117 q2118 q117 q2119 ⟨by decide +kernel, by decide +kernel⟩ (by decide +kernel)
theorem cv_X0_38_X1 : EntV g RX0 (.invokevirtual 38) 3 RX1 mX1_write.1 0 := entV_V (M := mX1_write) q2121 q2122 q2123 q2124 ⟨by decide +kernel, by decide +kernel⟩ (by decide +kernel)
theorem cs_X0_143 : EntS g RX0 (.invokestatic 143) 3 mX0_output.1 3 := entS_S (M := mX0_output) q2140 q2141 q117 q2142 ⟨by decide +kernel, by decide +kernel⟩ (by decide +kernel)
theorem cv_X0_43_X1 : EntV g RX0 (.invokevirtual 43) 3 RX1 mX1_output.1 1 := entV_V (M := mX1_output) q2143 q2144 q2145 q2146 ⟨by decide +kernel, by decide +kernel⟩ (by decide +kernel)
theorem cs_X0_147 : EntS g RX0 (.invokestatic 147) 3 mX0_mirror.1 2 := entS_S (M := mX0_mirror) q2148 q2149 q117 q2150 ⟨by decide +kernel, by decide +kernel⟩ (by decide +kernel)
theorem cv_X0_47_X1 : EntV g RX0 (.invokevirtual 47) 3 RX1 mX1_mirror.1 0 := entV_V (M := mX1_mirror) q2151 q2152 q2153 q2154 ⟨by decide +kernel, by decide +kernel⟩ (by decide +kernel)
theorem cs_X0_150 : EntS g RX0 (.invokestatic 150) 3 mX0_reverse.1 2 := entS_S (M := mX0_reverse) q2182 q2183 q117 q2184 ⟨by decide +kernel, by decide +kernel⟩ (by decide +kernel)
theorem cv_X0_50_X1 : EntV g RX0 (.invokevirtual 50) 3 RX1 mX1_reverse.1 0 := entV_V (M := mX1_reverse) q2185 q2186 q2187 q2188 ⟨by decide +kernel, by decide +kernel⟩ (by decide +kernel)
theorem cs_X0_153 : EntS g RX0 (.invokestatic 153) 3 mX0_repeat.1 3 := entS_S (M := mX0_repeat) q2191 q2192 q117 q2193 ⟨by decide +kernel, by decide +kernel⟩ (by decide +kernel)
theorem cv_X0_53_X1 : EntV g RX0 (.invokevirtual 53) 3 RX1 mX1_repeat.1 1 := entV_V (M := mX1_repeat) q2194 q2195 q2196 q2197 ⟨by decide +kernel, by decide +kernel⟩ (by decide +kernel)
theorem cs_X0_156 : EntS g RX0 (.invokestatic 156) 3 mX0_exchange.1 4 := entS_S (M := mX0_exchange) q2201 q2202 q117 q2203 ⟨by decide +kernel, by decide +kernel⟩ (by decide +kernel)
theorem cv_X0_57_X1 : EntV g RX0 (.invokevirtual 57) 3 RX1 mX1_exchange.1 2 := entV_V (M := mX1_exchange) q2204 q2205 q2206 q2207 ⟨by decide +kernel, by decide +kernel⟩ (by decide +kernel)
theorem cs_X0_159 : EntS g RX0 (.invokestatic 159) 3 mX0_tree.1 3 := entS_S (M := mX0_tree) q2274 q2275 q117 q2276 ⟨by decide +kernel, by decide +kernel⟩ (by decide +kernel)
theorem cv_X0_60_X1 : EntV g RX0 (.invokevirtual 60) 3 RX1 mX1_tree.1 1 := entV_V (M := mX1_tree) q2277 q2278 q2279 q2280 ⟨by decide +kernel, by decide +kernel⟩ (by decide +kernel)
theorem cs_X0_162 : EntS g RX0 (.invokestatic 162) 3 mX0_step.1 4 := entS_S (M := mX0_step) q2287 q2288 q117 q2289 ⟨by decide +kernel, by decide +kernel⟩ (by decide +kernel)
theorem cv_X0_63_X1 : EntV g RX0 (.invokevirtual 63) 3 RX1 mX1_step.1 2 := entV_V (M := mX1_step) q2290 q2291 q2292 q2293 ⟨by decide +kernel, by decide +kernel⟩ (by decide +kernel)
theorem cs_X0_165 : EntS g RX0 (.invokestatic 165) 3 mX0_position.1 5 := entS_S (M := mX0_position) q2294 q2295 q117 q2296 ⟨by decide +kernel, by decide +kernel⟩ (by decide +kernel)
theorem cv_X0_67_X1 : EntV g RX0 (.invokevirtual 67) 3 RX1 mX1_position.1 3 := entV_V (M := mX1_position) q2297 q2298 q2299 q2300 ⟨by decide +kernel, by decide +kernel⟩ (by decide +kernel)
theorem cs_X0_169 : EntS g RX0 (.invokestatic 169) 3 mX0_problemCount.1 3 := entS_S (M := mX0_problemCount) q2315 q2316 q117 q2317 ⟨by decide +kernel, by decide +kernel⟩ (by decide +kernel)
theorem cv_X0_71_X1 : EntV g RX0 (.invokevirtual 71) 3 RX1 mX1_problemCount.1 1 := entV_V (M := mX1_problemCount) q2318 q2319 q2320 q2321 ⟨by decide +kernel, by decide +kernel⟩ (by decide +kernel)
theorem cs_X0_172 : EntS g RX0 (.invokestatic 172) 3 mX0_problem.1 4 := entS_S (M := mX0_problem) q2403 q2404 q117 q2405 ⟨by decide +kernel, by decide +kernel⟩ (by decide +kernel)
theorem cv_X0_74_X1 : EntV g RX0 (.invokevirtual 74) 3 RX1 mX1_problem.1 2 := entV_V (M := mX1_problem) q2406 q2407 q2408 q2409 ⟨by decide +kernel, by decide +kernel⟩ (by decide +kernel)
theorem cs_X0_175 : EntS g RX0 (.invokestatic 175) 3 mX0_cue.1 3 := entS_S (M := mX0_cue) q2413 q2414 q117 q2415 ⟨by decide +kernel, by decide +kernel⟩ (by decide +kernel)
theorem cv_X0_77_X1 : EntV g RX0 (.invokevirtual 77) 3 RX1 mX1_cue.1 1 := entV_V (M := mX1_cue) q2416 q2417 q2418 q2419 ⟨by decide +kernel, by decide +kernel⟩ (by decide +kernel)
theorem cs_X0_178 : EntS g RX0 (.invokestatic 178) 3 mX0_displacement.1 4 := entS_S (M := mX0_displacement) q2428 q2429 q117 q2430 ⟨by decide +kernel, by decide +kernel⟩ (by decide +kernel)
theorem cv_X0_80_X1 : EntV g RX0 (.invokevirtual 80) 3 RX1 mX1_displacement.1 2 := entV_V (M := mX1_displacement) q2431 q2432 q2433 q2434 ⟨by decide +kernel, by decide +kernel⟩ (by decide +kernel)
theorem cs_X0_182 : EntS g RX0 (.invokestatic 182) 3 mX0_meanSteps.1 2 := entS_S (M := mX0_meanSteps) q2463 q2464 q117 q2465 ⟨by decide +kernel, by decide +kernel⟩ (by decide +kernel)
theorem cv_X0_84_X1 : EntV g RX0 (.invokevirtual 84) 3 RX1 mX1_meanSteps.1 0 := entV_V (M := mX1_meanSteps) q2480 q2481 q2482 q2483 ⟨by decide +kernel, by decide +kernel⟩ (by decide +kernel)
theorem cs_X0_186 : EntS g RX0 (.invokestatic 186) 3 mX0_movingShare.1 3 := entS_S (M := mX0_movingShare) q2499 q2500 q117 q2501 ⟨by decide +kernel, by decide +kernel⟩ (by decide +kernel)
theorem cv_X0_90_X1 : EntV g RX0 (.invokevirtual 90) 3 RX1 mX1_movingShare.1 1 := entV_V (M := mX1_movingShare) q2502 q2503 q2504 q2505 ⟨by decide +kernel, by decide +kernel⟩ (by decide +kernel)
theorem cs_X0_190 : EntS g RX0 (.invokestatic 190) 3 mX0_setFormation.1 5 := entS_S (M := mX0_setFormation) q2506 q2507 q117 q2508 ⟨by decide +kernel, by decide +kernel⟩ (by decide +kernel)
theorem cv_X0_94_X1 : EntV g RX0 (.invokevirtual 94) 3 RX1 mX1_setFormation.1 3 := entV_V (M := mX1_setFormation) q2509 q2510 q2511 q2512 ⟨by decide +kernel, by decide +kernel⟩ (by decide +kernel)
theorem cs_X0_194 : EntS g RX0 (.invokestatic 194) 3 mX0_distance.1 4 := entS_S (M := mX0_distance) q2518 q2519 q117 q2520 ⟨by decide +kernel, by decide +kernel⟩ (by decide +kernel)
theorem cv_X0_98_X1 : EntV g RX0 (.invokevirtual 98) 3 RX1 mX1_distance.1 2 := entV_V (M := mX1_distance) q2521 q2522 q2523 q2524 ⟨by decide +kernel, by decide +kernel⟩ (by decide +kernel)
theorem cs_X0_197 : EntS g RX0 (.invokestatic 197) 3 mX0_plan.1 3 := entS_S (M := mX0_plan) q2528 q2529 q117 q2530 ⟨by decide +kernel, by decide +kernel⟩ (by decide +kernel)
theorem cv_X0_101_X1 : EntV g RX0 (.invokevirtual 101) 3 RX1 mX1_plan.1 1 := entV_V (M := mX1_plan) q2531 q2532 q2533 q2534 ⟨by decide +kernel, by decide +kernel⟩ (by decide +kernel)
theorem cs_X0_204 : EntS g RX0 (.invokestatic 204) 3 mX0_undo.1 2 := entS_S (M := mX0_undo) q2662 q2663 q117 q2664 ⟨by decide +kernel, by decide +kernel⟩ (by decide +kernel)
theorem cv_X0_104_X1 : EntV g RX0 (.invokevirtual 104) 3 RX1 mX1_undo.1 0 := entV_V (M := mX1_undo) q2665 q2666 q2667 q2668 ⟨by decide +kernel, by decide +kernel⟩ (by decide +kernel)
theorem cs_X0_216 : EntS g RX0 (.invokestatic 216) 3 mX0_restore.1 2 := entS_S (M := mX0_restore) q2692 q2693 q117 q2694 ⟨by decide +kernel, by decide +kernel⟩ (by decide +kernel)
theorem cv_X0_107_X1 : EntV g RX0 (.invokevirtual 107) 3 RX1 mX1_restore.1 0 := entV_V (M := mX1_restore) q2695 q2696 q2697 q2698 ⟨by decide +kernel, by decide +kernel⟩ (by decide +kernel)
theorem ci_X0_113 {C : String} : EntV g RX0 (.invokespecial 113) 3 C mX3_init.1 0 := entV_I (M := mX3_init) rfl rfl rfl q2701 q2702 q2703 ⟨by decide +kernel, by decide +kernel⟩ (by decide +kernel)
theorem cv_X0_120_X3 : EntV g RX0 (.invokevirtual 120) 3 RX3 mX3_thrown.1 0 := entV_V (M := mX3_thrown) q2871 q2872 q2873 q2874 ⟨by decide +kernel, by decide +kernel⟩ (by decide +kernel)
theorem cv_X0_119_X3 : EntV g RX0 (.invokevirtual 119) 3 RX3 mX3_stage.1 2 := entV_V (M := mX3_stage) q2875 q2876 q2877 q2878 ⟨by decide +kernel, by decide +kernel⟩ (by decide +kernel)
theorem cv_X0_125_X3 : EntV g RX0 (.invokevirtual 125) 3 RX3 mX3_place.1 2 := entV_V (M := mX3_place) q2886 q2887 q2888 q2889 ⟨by decide +kernel, by decide +kernel⟩ (by decide +kernel)
theorem cv_X0_129_X3 : EntV g RX0 (.invokevirtual 129) 3 RX3 mX3_append.1 1 := entV_V (M := mX3_append) q2914 q2915 q2916 q2917 ⟨by decide +kernel, by decide +kernel⟩ (by decide +kernel)
theorem cv_X0_133_X3 : EntV g RX0 (.invokevirtual 133) 3 RX3 mX3_read.1 0 := entV_V (M := mX3_read) q2918 q2919 q2920 q2921 ⟨by decide +kernel, by decide +kernel⟩ (by decide +kernel)
theorem cv_X0_136_X3 : EntV g RX0 (.invokevirtual 136) 3 RX3 mX3_errorPosition.1 0 := entV_V (M := mX3_errorPosition) q3043 q3044 q3045 q3046 ⟨by decide +kernel, by decide +kernel⟩ (by decide +kernel)
theorem cv_X0_139_X3 : EntV g RX0 (.invokevirtual 139) 3 RX3 mX3_refusedDancer.1 0 := entV_V (M := mX3_refusedDancer) q3047 q3048 q3049 q3050 ⟨by decide +kernel, by decide +kernel⟩ (by decide +kernel)
theorem cv_X0_142_X3 : EntV g RX0 (.invokevirtual 142) 3 RX3 mX3_write.1 0 := entV_V (M := mX3_write) q3051 q3052 q3053 q3054 ⟨by decide +kernel, by decide +kernel⟩ (by decide +kernel)
theorem cv_X0_146_X3 : EntV g RX0 (.invokevirtual 146) 3 RX3 mX3_output.1 1 := entV_V (M := mX3_output) q3085 q3086 q3087 q3088 ⟨by decide +kernel, by decide +kernel⟩ (by decide +kernel)
theorem cv_X0_149_X3 : EntV g RX0 (.invokevirtual 149) 3 RX3 mX3_mirror.1 0 := entV_V (M := mX3_mirror) q3089 q3090 q3091 q3092 ⟨by decide +kernel, by decide +kernel⟩ (by decide +kernel)
theorem cv_X0_152_X3 : EntV g RX0 (.invokevirtual 152) 3 RX3 mX3_reverse.1 0 := entV_V (M := mX3_reverse) q3105 q3106 q3107 q3108 ⟨by decide +kernel, by decide +kernel⟩ (by decide +kernel)
theorem cv_X0_155_X3 : EntV g RX0 (.invokevirtual 155) 3 RX3 mX3_repeat.1 1 := entV_V (M := mX3_repeat) q3109 q3110 q3111 q3112 ⟨by decide +kernel, by decide +kernel⟩ (by decide +kernel)
theorem cv_X0_158_X3 : EntV g RX0 (.invokevirtual 158) 3 RX3 mX3_exchange.1 2 := entV_V (M := mX3_exchange) q3113 q3114 q3115 q3116 ⟨by decide +kernel, by decide +kernel⟩ (by decide +kernel)
theorem cv_X0_161_X3 : EntV g RX0 (.invokevirtual 161) 3 RX3 mX3_tree.1 1 := entV_V (M := mX3_tree) q3117 q3118 q3119 q3120 ⟨by decide +kernel, by decide +kernel⟩ (by decide +kernel)
theorem cv_X0_164_X3 : EntV g RX0 (.invokevirtual 164) 3 RX3 mX3_step.1 2 := entV_V (M := mX3_step) q3125 q3126 q3127 q3128 ⟨by decide +kernel, by decide +kernel⟩ (by decide +kernel)
theorem cv_X0_168_X3 : EntV g RX0 (.invokevirtual 168) 3 RX3 mX3_position.1 3 := entV_V (M := mX3_position) q3129 q3130 q3131 q3132 ⟨by decide +kernel, by decide +kernel⟩ (by decide +kernel)
theorem cv_X0_171_X3 : EntV g RX0 (.invokevirtual 171) 3 RX3 mX3_problemCount.1 1 := entV_V (M := mX3_problemCount) q3155 q3156 q3157 q3158 ⟨by decide +kernel, by decide +kernel⟩ (by decide +kernel)
theorem cv_X0_174_X3 : EntV g RX0 (.invokevirtual 174) 3 RX3 mX3_problem.1 2 := entV_V (M := mX3_problem) q3179 q3180 q3181 q3182 ⟨by decide +kernel, by decide +kernel⟩ (by decide +kernel)
theorem cv_X0_177_X3 : EntV g RX0 (.invokevirtual 177) 3 RX3 mX3_cue.1 1 := entV_V (M := mX3_cue) q3183 q3184 q3185 q3186 ⟨by decide +kernel, by decide +kernel⟩ (by decide +kernel)
theorem cv_X0_181_X3 : EntV g RX0 (.invokevirtual 181) 3 RX3 mX3_displacement.1 2 := entV_V (M := mX3_displacement) q3187 q3188 q3189 q3190 ⟨by decide +kernel, by decide +kernel⟩ (by decide +kernel)
theorem cv_X0_185_X3 : EntV g RX0 (.invokevirtual 185) 3 RX3 mX3_meanSteps.1 0 := entV_V (M := mX3_meanSteps) q3191 q3192 q3193 q3194 ⟨by decide +kernel, by decide +kernel⟩ (by decide +kernel)
theorem cv_X0_189_X3 : EntV g RX0 (.invokevirtual 189) 3 RX3 mX3_movingShare.1 1 := entV_V (M := mX3_movingShare) q3199 q3200 q3201 q3202 ⟨by decide +kernel, by decide +kernel⟩ (by decide +kernel)
theorem cv_X0_193_X3 : EntV g RX0 (.invokevirtual 193) 3 RX3 mX3_setFormation.1 3 := entV_V (M := mX3_setFormation) q3203 q3204 q3205 q3206 ⟨by decide +kernel, by decide +kernel⟩ (by decide +kernel)
theorem cv_X0_196_X3 : EntV g RX0 (.invokevirtual 196) 3 RX3 mX3_distance.1 2 := entV_V (M := mX3_distance) q3207 q3208 q3209 q3210 ⟨by decide +kernel, by decide +kernel⟩ (by decide +kernel)
theorem cv_X0_199_X3 : EntV g RX0 (.invokevirtual 199) 3 RX3 mX3_plan.1 1 := entV_V (M := mX3_plan) q3222 q3223 q3224 q3225 ⟨by decide +kernel, by decide +kernel⟩ (by decide +kernel)
theorem cv_X0_203_X3 : EntV g RX0 (.invokevirtual 203) 3 RX3 mX3_reason.1 0 := entV_V (M := mX3_reason) q3257 q3258 q3259 q3260 ⟨by decide +kernel, by decide +kernel⟩ (by decide +kernel)
theorem cv_X0_206_X3 : EntV g RX0 (.invokevirtual 206) 3 RX3 mX3_undo.1 0 := entV_V (M := mX3_undo) q3261 q3262 q3263 q3264 ⟨by decide +kernel, by decide +kernel⟩ (by decide +kernel)
theorem cv_X0_211_X3 : EntV g RX0 (.invokevirtual 211) 3 RX3 mX3_isReplayed.1 0 := entV_V (M := mX3_isReplayed) q3265 q3266 q3267 q3268 ⟨by decide +kernel, by decide +kernel⟩ (by decide +kernel)
theorem cv_X0_215_X3 : EntV g RX0 (.invokevirtual 215) 3 RX3 mX3_snapshot.1 0 := entV_V (M := mX3_snapshot) q3269 q3270 q3271 q3272 ⟨by decide +kernel, by decide +kernel⟩ (by decide +kernel)
theorem cv_X0_218_X3 : EntV g RX0 (.invokevirtual 218) 3 RX3 mX3_restore.1 0 := entV_V (M := mX3_restore) q3277 q3278 q3279 q3280 ⟨by decide +kernel, by decide +kernel⟩ (by decide +kernel)
theorem ci_X1_34 {C : String} : EntV g RX1 (.invokespecial 34) 3 C mX2_init.1 2 := entV_I (M := mX2_init) rfl rfl rfl q187 q188 q189 ⟨by decide +kernel, by decide +kernel⟩ (by decide +kernel)
theorem ci_X1_43 {C : String} : EntV g RX1 (.invokespecial 43) 3 C mJ3_init.1 0 := entV_I (M := mJ3_init) rfl rfl rfl q231 q232 q233 ⟨by decide +kernel, by decide +kernel⟩ (by decide +kernel)
theorem ci_X1_50 {C : String} : EntV g RX1 (.invokespecial 50) 3 C mJ4_init.1 0 := entV_I (M := mJ4_init) rfl rfl rfl q267 q268 q269 ⟨by decide +kernel, by decide +kernel⟩ (by decide +kernel)
theorem ci_X1_57 {C : String} : EntV g RX1 (.invokespecial 57) 3 C mJ6_init.1 0 := entV_I (M := mJ6_init) rfl rfl rfl q285 q286 q287 ⟨by decide +kernel, by decide +kernel⟩ (by decide +kernel)
theorem cv_X1_384_J3 : EntV g RX1 (.invokevirtual 384) 3 RJ3 mJ2_iterator.1 0 := entV_U (M := mJ2_iterator) (x := ⟨"java/util/LinkedList", "iterator", "()Ljava/util/Iterator;"⟩) (owner := "java/util/AbstractSequentialList") q355 q356 (decl_m (M0 := mJ2_iterator) q359 q360) ⟨by decide +kernel, by decide +kernel⟩ q358 q359 (by decide +kernel)
theorem cv_X1_88_X4 : EntV g RX1 (.invokevirtual 88) 3 RX4 mX4_carryOut.1 1 := entV_V (M := mX4_carryOut) q1089 q1090 q1091 q1092 ⟨by decide +kernel, by decide +kernel⟩ (by decide +kernel)
theorem cs_X1_25 : EntS g RX1 (.invokestatic 25) 3 mX1_mirrored.1 1 := entS_S (M := mX1_mirrored) q1158 q1151 q118 q1152 ⟨by decide +kernel, by decide +kernel⟩ (by decide +kernel)
theorem cv_X1_385_X2 : EntV g RX1 (.invokevirtual 385) 3 RX2 mX2_isLike.1 1 := entV_V (M := mX2_isLike) q1240 q1241 q1242 q1243 ⟨by decide +kernel, by decide +kernel⟩ (by decide +kernel)
theorem cv_X1_79_X2 : EntV g RX1 (.invokevirtual 79) 3 RX2 mX2_copy.1 0 := entV_V (M := mX2_copy) q1335 q1336 q1337 q1338 ⟨by decide +kernel, by decide +kernel⟩ (by decide +kernel)
theorem ci_X1_392 {C : String} : EntV g RX1 (.invokespecial 392) 3 C mJ3_init_2.1 1 := entV_I (M := mJ3_init_2) rfl rfl rfl q1342 q1343 q1344 ⟨by decide +kernel, by decide +kernel⟩ (by decide +kernel)
theorem cv_X1_398_X2 : EntV g RX1 (.invokevirtual 398) 3 RX2 mX2_participants.1 0 := entV_V (M := mX2_participants) q1395 q1396 q1397 q1398 ⟨by decide +kernel, by decide +kernel⟩ (by decide +kernel)
theorem cs_X1_108 : EntS g RX1 (.invokestatic 108) 3 mX1_inRange.1 3 := entS_S (M := mX1_inRange) q1409 q1410 q118 q1411 ⟨by decide +kernel, by decide +kernel⟩ (by decide +kernel)
theorem cs_X1_133 : EntS g RX1 (.invokestatic 133) 3 mX1_checkArgument.1 1 := entS_S (M := mX1_checkArgument) q1412 q1413 q118 q1414 ⟨by decide +kernel, by decide +kernel⟩ (by decide +kernel)
theorem ci_X1_3 {C : String} : EntV g RX1 (.invokespecial 3) 3 C mJ12_init_2.1 0 := entV_I (M := mJ12_init_2) rfl rfl rfl q1416 q1417 q1418 ⟨by decide +kernel, by decide +kernel⟩ (by decide +kernel)
theorem cv_X1_136_J3 : EntV g RX1 (.invokevirtual 136) 3 RJ3 mJ3_clear.1 0 := entV_V (M := mJ3_clear) q1420 q1421 q1422 q1423 ⟨by decide +kernel, by decide +kernel⟩ (by decide +kernel)
theorem cv_X1_139_J4 : EntV g RX1 (.invokevirtual 139) 3 RJ4 mJ4_clear.1 0 := entV_V (M := mJ4_clear) q1424 q1425 q1426 q1427 ⟨by decide +kernel, by decide +kernel⟩ (by decide +kernel)
theorem cv_X1_118_X2 : EntV g RX1 (.invokevirtual 118) 3 RX2 mX2_places.1 0 := entV_V (M := mX2_places) q1431 q1432 q1433 q1434 ⟨by decide +kernel, by decide +kernel⟩ (by decide +kernel)
theorem cs_X1_140 : EntS g RX1 (.invokestatic 140) 3 mX1_checkDancer.1 1 := entS_S (M := mX1_checkDancer) q1458 q1459 q118 q1460 ⟨by decide +kernel, by decide +kernel⟩ (by decide +kernel)
theorem cs_X1_112 : EntS g RX1 (.invokestatic 112) 3 mX1_checkIndex.1 1 := entS_S (M := mX1_checkIndex) q1462 q1463 q118 q1464 ⟨by decide +kernel, by decide +kernel⟩ (by decide +kernel)
theorem ci_X1_9 {C : String} : EntV g RX1 (.invokespecial 9) 3 C mJ13_init_2.1 0 := entV_I (M := mJ13_init_2) rfl rfl rfl q1466 q882 q883 ⟨by decide +kernel, by decide +kernel⟩ (by decide +kernel)
theorem cv_X1_144_X1 : EntV g RX1 (.invokevirtual 144) 3 RX1 mX1_checkPlace.1 1 := entV_V (M := mX1_checkPlace) q1467 q1469 qs11 q1470 ⟨by decide +kernel, by decide +kernel⟩ (by decide +kernel)
theorem cs_X1_151 : EntS g RX1 (.invokestatic 151) 3 mX1_isTaken.1 3 := entS_S (M := mX1_isTaken) q1472 q1473 q118 q1474 ⟨by decide +kernel, by decide +kernel⟩ (by decide +kernel)
theorem ci_X1_100 {C : String} : EntV g RX1 (.invokespecial 100) 3 C mX4_init.1 3 := entV_I (M := mX4_init) rfl rfl rfl q1478 q1479 q1480 ⟨by decide +kernel, by decide +kernel⟩ (by decide +kernel)
theorem cv_X1_103_X1 : EntV g RX1 (.invokevirtual 103) 3 RX1 mX1_carryOut.1 1 := entV_V (M := mX1_carryOut) q1492 q1494 qs12 q1495 ⟨by decide +kernel, by decide +kernel⟩ (by decide +kernel)
theorem cv_X1_71_J4 : EntV g RX1 (.invokevirtual 71) 3 RJ4 mJ4_size.1 0 := entV_V (M := mJ4_size) q1496 q782 q3298 q783 ⟨by decide +kernel, by decide +kernel⟩ (by decide +kernel)
theorem cv_X1_75_J4 : EntV g RX1 (.invokevirtual 75) 3 RJ4 mJ4_removeFirst.1 0 := entV_V (M := mJ4_removeFirst) q1497 q1498 q1499 q1500 ⟨by decide +kernel, by decide +kernel⟩ (by decide +kernel)
theorem cv_X1_83_J4 : EntV g RX1 (.invokevirtual 83) 3 RJ4 mJ4_addLast.1 1 := entV_V (M := mJ4_addLast) q1513 q1514 q1515 q1516 ⟨by decide +kernel, by decide +kernel⟩ (by decide +kernel)
theorem cv_X1_87_J3 : EntV g RX1 (.invokevirtual 87) 3 RJ3 mJ3_addLast.1 1 := entV_V (M := mJ3_addLast) q1544 q1545 q1546 q1547 ⟨by decide +kernel, by decide +kernel⟩ (by decide +kernel)
theorem cv_X1_162_J6 : EntV g RX1 (.invokevirtual 162) 3 RJ6 mJ6_length.1 0 := entV_V (M := mJ6_length) q1562 q600 q3299 q601 ⟨by decide +kernel, by decide +kernel⟩ (by decide +kernel)
theorem cs_X1_165 : EntS g RX1 (.invokestatic 165) 3 mX1_checkAllowed.1 1 := entS_S (M := mX1_checkAllowed) q1563 q1564 q118 q1565 ⟨by decide +kernel, by decide +kernel⟩ (by decide +kernel)
theorem ci_X1_15 {C : String} : EntV g RX1 (.invokespecial 15) 3 C mJ24_init.1 0 := entV_I (M := mJ24_init) rfl rfl rfl q1575 q1576 q1577 ⟨by decide +kernel, by decide +kernel⟩ (by decide +kernel)
theorem cv_X1_168_J6 : EntV g RX1 (.invokevirtual 168) 3 RJ6 mJ6_append_3.1 1 := entV_V (M := mJ6_append_3) q1581 q1279 q1280 q1281 ⟨by decide +kernel, by decide +kernel⟩ (by decide +kernel)
theorem ci_X1_174 {C : String} : EntV g RX1 (.invokespecial 174) 3 C mX6_init.1 1 := entV_I (M := mX6_init) rfl rfl rfl q1593 q1594 q1595 ⟨by decide +kernel, by decide +kernel⟩ (by decide +kernel)
theorem cv_X1_177_X6 : EntV g RX1 (.invokevirtual 177) 3 RX6 mX6_whole.1 0 := entV_V (M := mX6_whole) q1607 q1608 q1609 q1610 ⟨by decide +kernel, by decide +kernel⟩ (by decide +kernel)
theorem cv_X1_181_X10 : EntV g RX1 (.invokevirtual 181) 3 RX10 mX8_checkAll.1 0 := entV_V (M := mX8_checkAll) q1968 q1969 q1974 q1977 ⟨by decide +kernel, by decide +kernel⟩ (by decide +kernel)
theorem cv_X1_181_X12 : EntV g RX1 (.invokevirtual 181) 3 RX12 mX8_checkAll.1 0 := entV_V (M := mX8_checkAll) q1968 q1969 q1971 q1977 ⟨by decide +kernel, by decide +kernel⟩ (by decide +kernel)
theorem cv_X1_181_X13 : EntV g RX1 (.invokevirtual 181) 3 RX13 mX8_checkAll.1 0 := entV_V (M := mX8_checkAll) q1968 q1969 q1973 q1977 ⟨by decide +kernel, by decide +kernel⟩ (by decide +kernel)
theorem cv_X1_181_X14 : EntV g RX1 (.invokevirtual 181) 3 RX14 mX8_checkAll.1 0 := entV_V (M := mX8_checkAll) q1968 q1969 q1972 q1977 ⟨by decide +kernel, by decide +kernel⟩ (by decide +kernel)
theorem cv_X1_181_X15 : EntV g RX1 (.invokevirtual 181) 3 RX15 mX8_checkAll.1 0 := entV_V (M := mX8_checkAll) q1968 q1969 q1975 q1977 ⟨by decide +kernel, by decide +kernel⟩ (by decide +kernel)
theorem cv_X1_181_X16 : EntV g RX1 (.invokevirtual 181) 3 RX16 mX8_checkAll.1 0 := entV_V (M := mX8_checkAll) q1968 q1969 q1976 q1977 ⟨by decide +kernel, by decide +kernel⟩ (by decide +kernel)
theorem cv_X1_186_X1 : EntV g RX1 (.invokevirtual 186) 3 RX1 mX1_setPiece.1 1 := entV_V (M := mX1_setPiece) q2090 q2092 qs28 q2093 ⟨by decide +kernel, by decide +kernel⟩ (by decide +kernel)
theorem cv_X1_190_X10 : EntV g RX1 (.invokevirtual 190) 3 RX10 mX10_length.1 0 := entV_U (M := mX10_length) (x := ⟨"DanceNotation$Node", "length", "()I"⟩) (owner := "DanceNotation$Node") q2096 q1117 (decl_d q1116) ⟨by decide +kernel, by decide +kernel⟩ q1137 q1128 (by decide +kernel)
theorem cv_X1_190_X12 : EntV g RX1 (.invokevirtual 190) 3 RX12 mX12_length.1 0 := entV_U (M := mX12_length) (x := ⟨"DanceNotation$Node", "length", "()I"⟩) (owner := "DanceNotation$Node") q2096 q1117 (decl_d q1116) ⟨by decide +kernel, by decide +kernel⟩ q1118 q1119 (by decide +kernel)
theorem cv_X1_190_X13 : EntV g RX1 (.invokevirtual 190) 3 RX13 mX13_length.1 0 := entV_U (M := mX13_length) (x := ⟨"DanceNotation$Node", "length", "()I"⟩) (owner := "DanceNotation$Node") q2096 q1117 (decl_d q1116) ⟨by decide +kernel, by decide +kernel⟩ q1136 q1125 (by decide +kernel)
theorem cv_X1_190_X14 : EntV g RX1 (.invokevirtual 190) 3 RX14 mX9_length.1 0 := entV_U (M := mX9_length) (x := ⟨"DanceNotation$Node", "length", "()I"⟩) (owner := "DanceNotation$Node") q2096 q1117 (decl_d q1116) ⟨by decide +kernel, by decide +kernel⟩ q1121 q1122 (by decide +kernel)
theorem cv_X1_190_X15 : EntV g RX1 (.invokevirtual 190) 3 RX15 mX9_length.1 0 := entV_U (M := mX9_length) (x := ⟨"DanceNotation$Node", "length", "()I"⟩) (owner := "DanceNotation$Node") q2096 q1117 (decl_d q1116) ⟨by decide +kernel, by decide +kernel⟩ q1138 q1122 (by decide +kernel)
theorem cv_X1_190_X16 : EntV g RX1 (.invokevirtual 190) 3 RX16 mX16_length.1 0 := entV_U (M := mX16_length) (x := ⟨"DanceNotation$Node", "length", "()I"⟩) (owner := "DanceNotation$Node") q2096 q1117 (decl_d q1116) ⟨by decide +kernel, by decide +kernel⟩ q1139 q1132 (by decide +kernel)
theorem cs_X1_203 : EntS g RX1 (.invokestatic 203) 3 mX1_checkElement.1 1 := entS_S (M := mX1_checkElement) q2105 q2106 q118 q2107 ⟨by decide +kernel, by decide +kernel⟩ (by decide +kernel)
theorem ci_X1_12 {C : String} : EntV g RX1 (.invokespecial 12) 3 C mJ16_init.1 0 := entV_I (M := mJ16_init) rfl rfl rfl q2109 q845 q846 ⟨by decide +kernel, by decide +kernel⟩ (by decide +kernel)
theorem cv_X1_209_X1 : EntV g RX1 (.invokevirtual 209) 3 RX1 mX1_checkPiece.1 0 := entV_V (M := mX1_checkPiece) q2125 q2127 qs29 q2128 ⟨by decide +kernel, by decide +kernel⟩ (by decide +kernel)
theorem cv_X1_125_X1 : EntV g RX1 (.invokevirtual 125) 3 RX1 mX1_checkReason.1 2 := entV_V (M := mX1_checkReason) q2129 q2131 qs30 q2132 ⟨by decide +kernel, by decide +kernel⟩ (by decide +kernel)
theorem ci_X1_24 {C : String} : EntV g RX1 (.invokespecial 24) 3 C mJ17_init_2.1 0 := entV_I (M := mJ17_init_2) rfl rfl rfl q2134 q2135 q2136 ⟨by decide +kernel, by decide +kernel⟩ (by decide +kernel)
theorem cv_X1_212_X2 : EntV g RX1 (.invokevirtual 212) 3 RX2 mX2_text.1 0 := entV_V (M := mX2_text) q2138 q1245 q1246 q1247 ⟨by decide +kernel, by decide +kernel⟩ (by decide +kernel)
theorem cv_X1_216_J7 : EntV g RX1 (.invokevirtual 216) 3 RJ7 mJ7_length.1 0 := entV_V (M := mJ7_length) q2139 q510 q511 q512 ⟨by decide +kernel, by decide +kernel⟩ (by decide +kernel)
theorem cv_X1_219_J7 : EntV g RX1 (.invokevirtual 219) 3 RJ7 mJ7_charAt.1 1 := entV_V (M := mJ7_charAt) q2147 q1200 q1201 q1202 ⟨by decide +kernel, by decide +kernel⟩ (by decide +kernel)
theorem ci_X1_234 {C : String} : EntV g RX1 (.invokespecial 234) 3 C mX14_init.1 1 := entV_I (M := mX14_init) rfl rfl rfl q2156 q1918 q1919 ⟨by decide +kernel, by decide +kernel⟩ (by decide +kernel)
theorem cv_X1_236_X1 : EntV g RX1 (.invokevirtual 236) 3 RX1 mX1_replace.1 1 := entV_V (M := mX1_replace) q2157 q2159 qs31 q2160 ⟨by decide +kernel, by decide +kernel⟩ (by decide +kernel)
theorem ci_X1_243 {C : String} : EntV g RX1 (.invokespecial 243) 3 C mX15_init.1 1 := entV_I (M := mX15_init) rfl rfl rfl q2190 q1939 q1940 ⟨by decide +kernel, by decide +kernel⟩ (by decide +kernel)
theorem ci_X1_246 {C : String} : EntV g RX1 (.invokespecial 246) 3 C mX10_init.1 2 := entV_I (M := mX10_init) rfl rfl rfl q2199 q1945 q1946 ⟨by decide +kernel, by decide +kernel⟩ (by decide +kernel)
theorem cv_X1_249_X10 : EntV g RX1 (.invokevirtual 249) 3 RX10 mX10_cues.1 0 := entV_U (M := mX10_cues) (x := ⟨"DanceNotation$Node", "cues", "()I"⟩) (owner := "DanceNotation$Node") q2200 q2021 (decl_m (M0 := mX8_cues) q2020 q2034) ⟨by decide +kernel, by decide +kernel⟩ q2027 q2028 (by decide +kernel)
theorem cv_X1_249_X12 : EntV g RX1 (.invokevirtual 249) 3 RX12 mX12_cues.1 0 := entV_U (M := mX12_cues) (x := ⟨"DanceNotation$Node", "cues", "()I"⟩) (owner := "DanceNotation$Node") q2200 q2021 (decl_m (M0 := mX8_cues) q2020 q2034) ⟨by decide +kernel, by decide +kernel⟩ q2022 q2023 (by decide +kernel)
theorem cv_X1_249_X13 : EntV g RX1 (.invokevirtual 249) 3 RX13 mX8_cues.1 0 := entV_V (M := mX8_cues) q2200 q2020 q2026 q2034 ⟨by decide +kernel, by decide +kernel⟩ (by decide +kernel)
theorem cv_X1_249_X14 : EntV g RX1 (.invokevirtual 249) 3 RX14 mX8_cues.1 0 := entV_V (M := mX8_cues) q2200 q2020 q2025 q2034 ⟨by decide +kernel, by decide +kernel⟩ (by decide +kernel)
theorem cv_X1_249_X15 : EntV g RX1 (.invokevirtual 249) 3 RX15 mX8_cues.1 0 := entV_V (M := mX8_cues) q2200 q2020 q2035 q2034 ⟨by decide +kernel, by decide +kernel⟩ (by decide +kernel)
theorem cv_X1_249_X16 : EntV g RX1 (.invokevirtual 249) 3 RX16 mX8_cues.1 0 := entV_V (M := mX8_cues) q2200 q2020 q2036 q2034 ⟨by decide +kernel, by decide +kernel⟩ (by decide +kernel)
theorem cv_X1_252_X10 : EntV g RX1 (.invokevirtual 252) 3 RX10 mX8_leaves.1 0 := entV_V (M := mX8_leaves) q2208 q2209 q2214 q2217 ⟨by decide +kernel, by decide +kernel⟩ (by decide +kernel)
theorem cv_X1_252_X12 : EntV g RX1 (.invokevirtual 252) 3 RX12 mX8_leaves.1 0 := entV_V (M := mX8_leaves) q2208 q2209 q2211 q2217 ⟨by decide +kernel, by decide +kernel⟩ (by decide +kernel)
theorem cv_X1_252_X13 : EntV g RX1 (.invokevirtual 252) 3 RX13 mX8_leaves.1 0 := entV_V (M := mX8_leaves) q2208 q2209 q2213 q2217 ⟨by decide +kernel, by decide +kernel⟩ (by decide +kernel)
theorem cv_X1_252_X14 : EntV g RX1 (.invokevirtual 252) 3 RX14 mX8_leaves.1 0 := entV_V (M := mX8_leaves) q2208 q2209 q2212 q2217 ⟨by decide +kernel, by decide +kernel⟩ (by decide +kernel)
theorem cv_X1_252_X15 : EntV g RX1 (.invokevirtual 252) 3 RX15 mX8_leaves.1 0 := entV_V (M := mX8_leaves) q2208 q2209 q2215 q2217 ⟨by decide +kernel, by decide +kernel⟩ (by decide +kernel)
theorem cv_X1_252_X16 : EntV g RX1 (.invokevirtual 252) 3 RX16 mX8_leaves.1 0 := entV_V (M := mX8_leaves) q2208 q2209 q2216 q2217 ⟨by decide +kernel, by decide +kernel⟩ (by decide +kernel)
theorem cv_X1_267_X13 : EntV g RX1 (.invokevirtual 267) 3 RX13 mX13_changedBy.1 1 := entV_V (M := mX13_changedBy) q2235 q2236 q2237 q2238 ⟨by decide +kernel, by decide +kernel⟩ (by decide +kernel)
theorem cv_X1_271_X10 : EntV g RX1 (.invokevirtual 271) 3 RX10 mX10_renamed.1 1 := entV_U (M := mX10_renamed) (x := ⟨"DanceNotation$Node", "renamed", "([I)LDanceNotation$Node;"⟩) (owner := "DanceNotation$Node") q2239 q2241 (decl_d q2240) ⟨by decide +kernel, by decide +kernel⟩ q2271 q2254 (by decide +kernel)
theorem cv_X1_271_X12 : EntV g RX1 (.invokevirtual 271) 3 RX12 mX12_renamed.1 1 := entV_U (M := mX12_renamed) (x := ⟨"DanceNotation$Node", "renamed", "([I)LDanceNotation$Node;"⟩) (owner := "DanceNotation$Node") q2239 q2241 (decl_d q2240) ⟨by decide +kernel, by decide +kernel⟩ q2242 q2243 (by decide +kernel)
theorem cv_X1_271_X13 : EntV g RX1 (.invokevirtual 271) 3 RX13 mX13_renamed.1 1 := entV_U (M := mX13_renamed) (x := ⟨"DanceNotation$Node", "renamed", "([I)LDanceNotation$Node;"⟩) (owner := "DanceNotation$Node") q2239 q2241 (decl_d q2240) ⟨by decide +kernel, by decide +kernel⟩ q2270 q2250 (by decide +kernel)
theorem cv_X1_271_X14 : EntV g RX1 (.invokevirtual 271) 3 RX14 mX14_renamed.1 1 := entV_U (M := mX14_renamed) (x := ⟨"DanceNotation$Node", "renamed", "([I)LDanceNotation$Node;"⟩) (owner := "DanceNotation$Node") q2239 q2241 (decl_d q2240) ⟨by decide +kernel, by decide +kernel⟩ q2245 q2246 (by decide +kernel)
theorem cv_X1_271_X15 : EntV g RX1 (.invokevirtual 271) 3 RX15 mX15_renamed.1 1 := entV_U (M := mX15_renamed) (x := ⟨"DanceNotation$Node", "renamed", "([I)LDanceNotation$Node;"⟩) (owner := "DanceNotation$Node") q2239 q2241 (decl_d q2240) ⟨by decide +kernel, by decide +kernel⟩ q2272 q2257 (by decide +kernel)
theorem cv_X1_271_X16 : EntV g RX1 (.invokevirtual 271) 3 RX16 mX16_renamed.1 1 := entV_U (M := mX16_renamed) (x := ⟨"DanceNotation$Node", "renamed", "([I)LDanceNotation$Node;"⟩) (owner := "DanceNotation$Node") q2239 q2241 (decl_d q2240) ⟨by decide +kernel, by decide +kernel⟩ q2273 q2261 (by decide +kernel)
theorem cv_X1_277_X1 : EntV g RX1 (.invokevirtual 277) 3 RX1 mX1_leafCount.1 0 := entV_V (M := mX1_leafCount) q2282 q2284 qs32 q2285 ⟨by decide +kernel, by decide +kernel⟩ (by decide +kernel)
theorem cv_X1_295_X2 : EntV g RX1 (.invokevirtual 295) 3 RX2 mX2_takesPart.1 1 := entV_V (M := mX2_takesPart) q2301 q2302 q2303 q2304 ⟨by decide +kernel, by decide +kernel⟩ (by decide +kernel)
theorem cv_X1_299_X2 : EntV g RX1 (.invokevirtual 299) 3 RX2 mX2_position.1 3 := entV_V (M := mX2_position) q2305 q2306 q2307 q2308 ⟨by decide +kernel, by decide +kernel⟩ (by decide +kernel)
theorem cv_X1_302_X2 : EntV g RX1 (.invokevirtual 302) 3 RX2 mX2_problems.1 0 := entV_V (M := mX2_problems) q2322 q2323 q2324 q2325 ⟨by decide +kernel, by decide +kernel⟩ (by decide +kernel)
theorem cv_X1_306_J26 : EntV g RX1 (.invokevirtual 306) 3 RJ26 mJ26_iterator.1 0 := entV_V (M := mJ26_iterator) q2390 q2391 q2392 q2393 ⟨by decide +kernel, by decide +kernel⟩ (by decide +kernel)
theorem cv_X1_314_J26 : EntV g RX1 (.invokevirtual 314) 3 RJ26 mJ26_size.1 0 := entV_V (M := mJ26_size) q2411 q788 q3292 q789 ⟨by decide +kernel, by decide +kernel⟩ (by decide +kernel)
theorem cv_X1_315_J26 : EntV g RX1 (.invokevirtual 315) 3 RJ26 mJ26_get.1 1 := entV_V (M := mJ26_get) q2412 q895 q896 q897 ⟨by decide +kernel, by decide +kernel⟩ (by decide +kernel)
theorem cv_X1_319_X5 : EntV g RX1 (.invokevirtual 319) 3 RX5 mX5_cueCount.1 0 := entV_V (M := mX5_cueCount) q2420 q2421 q2422 q2423 ⟨by decide +kernel, by decide +kernel⟩ (by decide +kernel)
theorem cv_X1_322_X5 : EntV g RX1 (.invokevirtual 322) 3 RX5 mX5_cue.1 1 := entV_V (M := mX5_cue) q2424 q2425 q2426 q2427 ⟨by decide +kernel, by decide +kernel⟩ (by decide +kernel)
theorem cv_X1_326_X10 : EntV g RX1 (.invokevirtual 326) 3 RX10 mX10_displacement.1 2 := entV_U (M := mX10_displacement) (x := ⟨"DanceNotation$Node", "displacement", "(IZ)I"⟩) (owner := "DanceNotation$Node") q2435 q2437 (decl_d q2436) ⟨by decide +kernel, by decide +kernel⟩ q2460 q2450 (by decide +kernel)
theorem cv_X1_326_X12 : EntV g RX1 (.invokevirtual 326) 3 RX12 mX12_displacement.1 2 := entV_U (M := mX12_displacement) (x := ⟨"DanceNotation$Node", "displacement", "(IZ)I"⟩) (owner := "DanceNotation$Node") q2435 q2437 (decl_d q2436) ⟨by decide +kernel, by decide +kernel⟩ q2438 q2439 (by decide +kernel)
theorem cv_X1_326_X13 : EntV g RX1 (.invokevirtual 326) 3 RX13 mX13_displacement.1 2 := entV_U (M := mX13_displacement) (x := ⟨"DanceNotation$Node", "displacement", "(IZ)I"⟩) (owner := "DanceNotation$Node") q2435 q2437 (decl_d q2436) ⟨by decide +kernel, by decide +kernel⟩ q2459 q2445 (by decide +kernel)
theorem cv_X1_326_X14 : EntV g RX1 (.invokevirtual 326) 3 RX14 mX14_displacement.1 2 := entV_U (M := mX14_displacement) (x := ⟨"DanceNotation$Node", "displacement", "(IZ)I"⟩) (owner := "DanceNotation$Node") q2435 q2437 (decl_d q2436) ⟨by decide +kernel, by decide +kernel⟩ q2441 q2442 (by decide +kernel)
theorem cv_X1_326_X15 : EntV g RX1 (.invokevirtual 326) 3 RX15 mX15_displacement.1 2 := entV_U (M := mX15_displacement) (x := ⟨"DanceNotation$Node", "displacement", "(IZ)I"⟩) (owner := "DanceNotation$Node") q2435 q2437 (decl_d q2436) ⟨by decide +kernel, by decide +kernel⟩ q2461 q2453 (by decide +kernel)
theorem cv_X1_326_X16 : EntV g RX1 (.invokevirtual 326) 3 RX16 mX16_displacement.1 2 := entV_U (M := mX16_displacement) (x := ⟨"DanceNotation$Node", "displacement", "(IZ)I"⟩) (owner := "DanceNotation$Node") q2435 q2437 (decl_d q2436) ⟨by decide +kernel, by decide +kernel⟩ q2462 q2456 (by decide +kernel)
theorem ci_X1_332 {C : String} : EntV g RX1 (.invokespecial 332) 3 C mJ31_init_2.1 0 := entV_I (M := mJ31_init_2) rfl rfl rfl q2485 q2486 q2487 ⟨by decide +kernel, by decide +kernel⟩ (by decide +kernel)
theorem cv_X1_333_X1 : EntV g RX1 (.invokevirtual 333) 3 RX1 mX1_moves.1 1 := entV_V (M := mX1_moves) q2489 q2491 qs40 q2492 ⟨by decide +kernel, by decide +kernel⟩ (by decide +kernel)
theorem cs_X1_336 : EntS g RX1 (.invokestatic 336) 3 mJ28_bitCount.1 1 := entS_S (M := mJ28_bitCount) q2493 q2494 q160 q2495 ⟨by decide +kernel, by decide +kernel⟩ (by decide +kernel)
theorem cs_X1_341 : EntS g RX1 (.invokestatic 341) 3 mX1_checkFormation.1 1 := entS_S (M := mX1_checkFormation) q2513 q2514 q118 q2515 ⟨by decide +kernel, by decide +kernel⟩ (by decide +kernel)
theorem cs_X1_354 : EntS g RX1 (.invokestatic 354) 3 mJ19_abs.1 1 := entS_S (M := mJ19_abs) q2525 q2526 q143 q2527 ⟨by decide +kernel, by decide +kernel⟩ (by decide +kernel)
theorem cv_X1_359_J26 : EntV g RX1 (.invokevirtual 359) 3 RJ26 mJ26_isEmpty.1 0 := entV_V (M := mJ26_isEmpty) q2535 q2536 q2537 q2538 ⟨by decide +kernel, by decide +kernel⟩ (by decide +kernel)
theorem cv_X1_362_X2 : EntV g RX1 (.invokevirtual 362) 3 RX2 mX2_plan.1 1 := entV_V (M := mX2_plan) q2539 q2540 q2541 q2542 ⟨by decide +kernel, by decide +kernel⟩ (by decide +kernel)
theorem cs_X1_366 : EntS g RX1 (.invokestatic 366) 3 mX16_of.1 2 := entS_S (M := mX16_of) q2629 q1953 q166 q1954 ⟨by decide +kernel, by decide +kernel⟩ (by decide +kernel)
theorem cv_X1_372_X2 : EntV g RX1 (.invokevirtual 372) 3 RX2 mX2_with.1 1 := entV_V (M := mX2_with) q2630 q2631 q2632 q2633 ⟨by decide +kernel, by decide +kernel⟩ (by decide +kernel)
theorem cv_X1_376_J4 : EntV g RX1 (.invokevirtual 376) 3 RJ4 mJ4_isEmpty.1 0 := entV_V (M := mJ4_isEmpty) q2669 q2670 q2671 q2672 ⟨by decide +kernel, by decide +kernel⟩ (by decide +kernel)
theorem cv_X1_377_J4 : EntV g RX1 (.invokevirtual 377) 3 RJ4 mJ4_removeLast.1 0 := entV_V (M := mJ4_removeLast) q2673 q2674 q2675 q2676 ⟨by decide +kernel, by decide +kernel⟩ (by decide +kernel)
theorem cv_X1_380_J3 : EntV g RX1 (.invokevirtual 380) 3 RJ3 mJ3_removeLast.1 0 := entV_V (M := mJ3_removeLast) q2684 q2685 q2686 q2687 ⟨by decide +kernel, by decide +kernel⟩ (by decide +kernel)
theorem cu_X10_13 {C : String} : EntV g RX10 (.invokespecial 13) 3 C mX9_length.1 0 := entV_SU (M := mX9_length) q1130 q3294 q1131 q1122 q1123 (by decide +kernel) (by decide +kernel)
theorem cv_X10_24_X10 : EntV g RX10 (.invokevirtual 24) 3 RX10 mX10_length.1 0 := entV_U (M := mX10_length) (x := ⟨"DanceNotation$Node", "length", "()I"⟩) (owner := "DanceNotation$Node") q1227 q1117 (decl_d q1116) ⟨by decide +kernel, by decide +kernel⟩ q1137 q1128 (by decide +kernel)
theorem cv_X10_24_X12 : EntV g RX10 (.invokevirtual 24) 3 RX12 mX12_length.1 0 := entV_U (M := mX12_length) (x := ⟨"DanceNotation$Node", "length", "()I"⟩) (owner := "DanceNotation$Node") q1227 q1117 (decl_d q1116) ⟨by decide +kernel, by decide +kernel⟩ q1118 q1119 (by decide +kernel)
theorem cv_X10_24_X13 : EntV g RX10 (.invokevirtual 24) 3 RX13 mX13_length.1 0 := entV_U (M := mX13_length) (x := ⟨"DanceNotation$Node", "length", "()I"⟩) (owner := "DanceNotation$Node") q1227 q1117 (decl_d q1116) ⟨by decide +kernel, by decide +kernel⟩ q1136 q1125 (by decide +kernel)
theorem cv_X10_24_X14 : EntV g RX10 (.invokevirtual 24) 3 RX14 mX9_length.1 0 := entV_U (M := mX9_length) (x := ⟨"DanceNotation$Node", "length", "()I"⟩) (owner := "DanceNotation$Node") q1227 q1117 (decl_d q1116) ⟨by decide +kernel, by decide +kernel⟩ q1121 q1122 (by decide +kernel)
theorem cv_X10_24_X15 : EntV g RX10 (.invokevirtual 24) 3 RX15 mX9_length.1 0 := entV_U (M := mX9_length) (x := ⟨"DanceNotation$Node", "length", "()I"⟩) (owner := "DanceNotation$Node") q1227 q1117 (decl_d q1116) ⟨by decide +kernel, by decide +kernel⟩ q1138 q1122 (by decide +kernel)
theorem cv_X10_24_X16 : EntV g RX10 (.invokevirtual 24) 3 RX16 mX16_length.1 0 := entV_U (M := mX16_length) (x := ⟨"DanceNotation$Node", "length", "()I"⟩) (owner := "DanceNotation$Node") q1227 q1117 (decl_d q1116) ⟨by decide +kernel, by decide +kernel⟩ q1139 q1132 (by decide +kernel)
theorem cv_X10_27_X10 : EntV g RX10 (.invokevirtual 27) 3 RX10 mX10_perform.1 4 := entV_U (M := mX10_perform) (x := ⟨"DanceNotation$Node", "perform", "(LDanceNotation$Score;IIZ)V"⟩) (owner := "DanceNotation$Node") q1228 q1188 (decl_d q1187) ⟨by decide +kernel, by decide +kernel⟩ q1237 q1225 (by decide +kernel)
theorem cv_X10_27_X12 : EntV g RX10 (.invokevirtual 27) 3 RX12 mX12_perform.1 4 := entV_U (M := mX12_perform) (x := ⟨"DanceNotation$Node", "perform", "(LDanceNotation$Score;IIZ)V"⟩) (owner := "DanceNotation$Node") q1228 q1188 (decl_d q1187) ⟨by decide +kernel, by decide +kernel⟩ q1189 q1190 (by decide +kernel)
theorem cv_X10_27_X13 : EntV g RX10 (.invokevirtual 27) 3 RX13 mX13_perform.1 4 := entV_U (M := mX13_perform) (x := ⟨"DanceNotation$Node", "perform", "(LDanceNotation$Score;IIZ)V"⟩) (owner := "DanceNotation$Node") q1228 q1188 (decl_d q1187) ⟨by decide +kernel, by decide +kernel⟩ q1236 q1196 (by decide +kernel)
theorem cv_X10_27_X14 : EntV g RX10 (.invokevirtual 27) 3 RX14 mX14_perform.1 4 := entV_U (M := mX14_perform) (x := ⟨"DanceNotation$Node", "perform", "(LDanceNotation$Score;IIZ)V"⟩) (owner := "DanceNotation$Node") q1228 q1188 (decl_d q1187) ⟨by decide +kernel, by decide +kernel⟩ q1192 q1193 (by decide +kernel)
theorem cv_X10_27_X15 : EntV g RX10 (.invokevirtual 27) 3 RX15 mX15_perform.1 4 := entV_U (M := mX15_perform) (x := ⟨"DanceNotation$Node", "perform", "(LDanceNotation$Score;IIZ)V"⟩) (owner := "DanceNotation$Node") q1228 q1188 (decl_d q1187) ⟨by decide +kernel, by decide +kernel⟩ q1238 q1229 (by decide +kernel)
theorem cv_X10_27_X16 : EntV g RX10 (.invokevirtual 27) 3 RX16 mX16_perform.1 4 := entV_U (M := mX16_perform) (x := ⟨"DanceNotation$Node", "perform", "(LDanceNotation$Score;IIZ)V"⟩) (owner := "DanceNotation$Node") q1228 q1188 (decl_d q1187) ⟨by decide +kernel, by decide +kernel⟩ q1239 q1232 (by decide +kernel)
theorem cv_X10_42_J6 : EntV g RX10 (.invokevirtual 42) 3 RJ6 mJ6_append_2.1 1 := entV_V (M := mJ6_append_2) q1294 q553 q554 q555 ⟨by decide +kernel, by decide +kernel⟩ (by decide +kernel)
theorem cv_X10_50_X10 : EntV g RX10 (.invokevirtual 50) 3 RX10 mX8_writePart.1 3 := entV_U (M := mX8_writePart) (x := ⟨"DanceNotation$Repeat", "writePart", "(Ljava/lang/StringBuilder;LDanceNotation$Node;Z)V"⟩) (owner := "DanceNotation$Node") q1297 q1298 (decl_m (M0 := mX8_writePart) q1267 q1268) ⟨by decide +kernel, by decide +kernel⟩ q1299 q1267 (by decide +kernel)
theorem ci_X10_1 {C : String} : EntV g RX10 (.invokespecial 1) 3 C mX9_init.1 1 := entV_I (M := mX9_init) rfl rfl rfl q1947 q1921 q1922 ⟨by decide +kernel, by decide +kernel⟩ (by decide +kernel)
theorem cv_X10_35_X10 : EntV g RX10 (.invokevirtual 35) 3 RX10 mX10_renamed.1 1 := entV_U (M := mX10_renamed) (x := ⟨"DanceNotation$Node", "renamed", "([I)LDanceNotation$Node;"⟩) (owner := "DanceNotation$Node") q2256 q2241 (decl_d q2240) ⟨by decide +kernel, by decide +kernel⟩ q2271 q2254 (by decide +kernel)
theorem cv_X10_35_X12 : EntV g RX10 (.invokevirtual 35) 3 RX12 mX12_renamed.1 1 := entV_U (M := mX12_renamed) (x := ⟨"DanceNotation$Node", "renamed", "([I)LDanceNotation$Node;"⟩) (owner := "DanceNotation$Node") q2256 q2241 (decl_d q2240) ⟨by decide +kernel, by decide +kernel⟩ q2242 q2243 (by decide +kernel)
theorem cv_X10_35_X13 : EntV g RX10 (.invokevirtual 35) 3 RX13 mX13_renamed.1 1 := entV_U (M := mX13_renamed) (x := ⟨"DanceNotation$Node", "renamed", "([I)LDanceNotation$Node;"⟩) (owner := "DanceNotation$Node") q2256 q2241 (decl_d q2240) ⟨by decide +kernel, by decide +kernel⟩ q2270 q2250 (by decide +kernel)
theorem cv_X10_35_X14 : EntV g RX10 (.invokevirtual 35) 3 RX14 mX14_renamed.1 1 := entV_U (M := mX14_renamed) (x := ⟨"DanceNotation$Node", "renamed", "([I)LDanceNotation$Node;"⟩) (owner := "DanceNotation$Node") q2256 q2241 (decl_d q2240) ⟨by decide +kernel, by decide +kernel⟩ q2245 q2246 (by decide +kernel)
theorem cv_X10_35_X15 : EntV g RX10 (.invokevirtual 35) 3 RX15 mX15_renamed.1 1 := entV_U (M := mX15_renamed) (x := ⟨"DanceNotation$Node", "renamed", "([I)LDanceNotation$Node;"⟩) (owner := "DanceNotation$Node") q2256 q2241 (decl_d q2240) ⟨by decide +kernel, by decide +kernel⟩ q2272 q2257 (by decide +kernel)
theorem cv_X10_35_X16 : EntV g RX10 (.invokevirtual 35) 3 RX16 mX16_renamed.1 1 := entV_U (M := mX16_renamed) (x := ⟨"DanceNotation$Node", "renamed", "([I)LDanceNotation$Node;"⟩) (owner := "DanceNotation$Node") q2256 q2241 (decl_d q2240) ⟨by decide +kernel, by decide +kernel⟩ q2273 q2261 (by decide +kernel)
theorem ci_X10_39 {C : String} : EntV g RX10 (.invokespecial 39) 3 C mX10_init.1 2 := entV_I (M := mX10_init) rfl rfl rfl q2268 q1945 q1946 ⟨by decide +kernel, by decide +kernel⟩ (by decide +kernel)
theorem cv_X10_31_X10 : EntV g RX10 (.invokevirtual 31) 3 RX10 mX10_displacement.1 2 := entV_U (M := mX10_displacement) (x := ⟨"DanceNotation$Node", "displacement", "(IZ)I"⟩) (owner := "DanceNotation$Node") q2452 q2437 (decl_d q2436) ⟨by decide +kernel, by decide +kernel⟩ q2460 q2450 (by decide +kernel)
theorem cv_X10_31_X12 : EntV g RX10 (.invokevirtual 31) 3 RX12 mX12_displacement.1 2 := entV_U (M := mX12_displacement) (x := ⟨"DanceNotation$Node", "displacement", "(IZ)I"⟩) (owner := "DanceNotation$Node") q2452 q2437 (decl_d q2436) ⟨by decide +kernel, by decide +kernel⟩ q2438 q2439 (by decide +kernel)
theorem cv_X10_31_X13 : EntV g RX10 (.invokevirtual 31) 3 RX13 mX13_displacement.1 2 := entV_U (M := mX13_displacement) (x := ⟨"DanceNotation$Node", "displacement", "(IZ)I"⟩) (owner := "DanceNotation$Node") q2452 q2437 (decl_d q2436) ⟨by decide +kernel, by decide +kernel⟩ q2459 q2445 (by decide +kernel)
theorem cv_X10_31_X14 : EntV g RX10 (.invokevirtual 31) 3 RX14 mX14_displacement.1 2 := entV_U (M := mX14_displacement) (x := ⟨"DanceNotation$Node", "displacement", "(IZ)I"⟩) (owner := "DanceNotation$Node") q2452 q2437 (decl_d q2436) ⟨by decide +kernel, by decide +kernel⟩ q2441 q2442 (by decide +kernel)
theorem cv_X10_31_X15 : EntV g RX10 (.invokevirtual 31) 3 RX15 mX15_displacement.1 2 := entV_U (M := mX15_displacement) (x := ⟨"DanceNotation$Node", "displacement", "(IZ)I"⟩) (owner := "DanceNotation$Node") q2452 q2437 (decl_d q2436) ⟨by decide +kernel, by decide +kernel⟩ q2461 q2453 (by decide +kernel)
theorem cv_X10_31_X16 : EntV g RX10 (.invokevirtual 31) 3 RX16 mX16_displacement.1 2 := entV_U (M := mX16_displacement) (x := ⟨"DanceNotation$Node", "displacement", "(IZ)I"⟩) (owner := "DanceNotation$Node") q2452 q2437 (decl_d q2436) ⟨by decide +kernel, by decide +kernel⟩ q2462 q2456 (by decide +kernel)
theorem ci_X11_9 {C : String} : EntV g RX11 (.invokespecial 9) 3 C mJ13_init_2.1 0 := entV_I (M := mJ13_init_2) rfl rfl rfl q881 q882 q883 ⟨by decide +kernel, by decide +kernel⟩ (by decide +kernel)
theorem cv_X12_15_J6 : EntV g RX12 (.invokevirtual 15) 3 RJ6 mJ6_append.1 1 := entV_V (M := mJ6_append) q1257 q433 q434 q435 ⟨by decide +kernel, by decide +kernel⟩ (by decide +kernel)
theorem cv_X13_27_J7 : EntV g RX13 (.invokevirtual 27) 3 RJ7 mJ7_length.1 0 := entV_V (M := mJ7_length) q1127 q510 q511 q512 ⟨by decide +kernel, by decide +kernel⟩ (by decide +kernel)
theorem cv_X13_46_X13 : EntV g RX13 (.invokevirtual 46) 3 RX13 mX13_length.1 0 := entV_V (M := mX13_length) q1198 q1125 q3295 q1126 ⟨by decide +kernel, by decide +kernel⟩ (by decide +kernel)
theorem cv_X13_56_J7 : EntV g RX13 (.invokevirtual 56) 3 RJ7 mJ7_charAt.1 1 := entV_V (M := mJ7_charAt) q1199 q1200 q1201 q1202 ⟨by decide +kernel, by decide +kernel⟩ (by decide +kernel)
theorem cv_X13_79_J6 : EntV g RX13 (.invokevirtual 79) 3 RJ6 mJ6_append.1 1 := entV_V (M := mJ6_append) q1276 q433 q434 q435 ⟨by decide +kernel, by decide +kernel⟩ (by decide +kernel)
theorem cv_X13_85_J6 : EntV g RX13 (.invokevirtual 85) 3 RJ6 mJ6_append_2.1 1 := entV_V (M := mJ6_append_2) q1277 q553 q554 q555 ⟨by decide +kernel, by decide +kernel⟩ (by decide +kernel)
theorem cv_X13_88_J6 : EntV g RX13 (.invokevirtual 88) 3 RJ6 mJ6_append_3.1 1 := entV_V (M := mJ6_append_3) q1278 q1279 q1280 q1281 ⟨by decide +kernel, by decide +kernel⟩ (by decide +kernel)
theorem cs_X13_34 : EntS g RX13 (.invokestatic 34) 3 mJ28_numberOfTrailingZeros.1 1 := entS_S (M := mJ28_numberOfTrailingZeros) q1996 q1997 q160 q1998 ⟨by decide +kernel, by decide +kernel⟩ (by decide +kernel)
theorem ci_X13_40 {C : String} : EntV g RX13 (.invokespecial 40) 3 C mX17_init.1 2 := entV_I (M := mX17_init) rfl rfl rfl q2000 q2001 q2002 ⟨by decide +kernel, by decide +kernel⟩ (by decide +kernel)
theorem ci_X13_74 {C : String} : EntV g RX13 (.invokespecial 74) 3 C mX13_init.1 3 := entV_I (M := mX13_init) rfl rfl rfl q2253 q1898 q1899 ⟨by decide +kernel, by decide +kernel⟩ (by decide +kernel)
theorem cv_X13_73_X13 : EntV g RX13 (.invokevirtual 73) 3 RX13 mX13_used.1 0 := entV_V (M := mX13_used) q2449 q2048 q3302 q2049 ⟨by decide +kernel, by decide +kernel⟩ (by decide +kernel)
theorem cv_X14_15_X10 : EntV g RX14 (.invokevirtual 15) 3 RX10 mX10_perform.1 4 := entV_U (M := mX10_perform) (x := ⟨"DanceNotation$Node", "perform", "(LDanceNotation$Score;IIZ)V"⟩) (owner := "DanceNotation$Node") q1195 q1188 (decl_d q1187) ⟨by decide +kernel, by decide +kernel⟩ q1237 q1225 (by decide +kernel)
theorem cv_X14_15_X12 : EntV g RX14 (.invokevirtual 15) 3 RX12 mX12_perform.1 4 := entV_U (M := mX12_perform) (x := ⟨"DanceNotation$Node", "perform", "(LDanceNotation$Score;IIZ)V"⟩) (owner := "DanceNotation$Node") q1195 q1188 (decl_d q1187) ⟨by decide +kernel, by decide +kernel⟩ q1189 q1190 (by decide +kernel)
theorem cv_X14_15_X13 : EntV g RX14 (.invokevirtual 15) 3 RX13 mX13_perform.1 4 := entV_U (M := mX13_perform) (x := ⟨"DanceNotation$Node", "perform", "(LDanceNotation$Score;IIZ)V"⟩) (owner := "DanceNotation$Node") q1195 q1188 (decl_d q1187) ⟨by decide +kernel, by decide +kernel⟩ q1236 q1196 (by decide +kernel)
theorem cv_X14_15_X14 : EntV g RX14 (.invokevirtual 15) 3 RX14 mX14_perform.1 4 := entV_U (M := mX14_perform) (x := ⟨"DanceNotation$Node", "perform", "(LDanceNotation$Score;IIZ)V"⟩) (owner := "DanceNotation$Node") q1195 q1188 (decl_d q1187) ⟨by decide +kernel, by decide +kernel⟩ q1192 q1193 (by decide +kernel)
theorem cv_X14_15_X15 : EntV g RX14 (.invokevirtual 15) 3 RX15 mX15_perform.1 4 := entV_U (M := mX15_perform) (x := ⟨"DanceNotation$Node", "perform", "(LDanceNotation$Score;IIZ)V"⟩) (owner := "DanceNotation$Node") q1195 q1188 (decl_d q1187) ⟨by decide +kernel, by decide +kernel⟩ q1238 q1229 (by decide +kernel)
theorem cv_X14_15_X16 : EntV g RX14 (.invokevirtual 15) 3 RX16 mX16_perform.1 4 := entV_U (M := mX16_perform) (x := ⟨"DanceNotation$Node", "perform", "(LDanceNotation$Score;IIZ)V"⟩) (owner := "DanceNotation$Node") q1195 q1188 (decl_d q1187) ⟨by decide +kernel, by decide +kernel⟩ q1239 q1232 (by decide +kernel)
theorem cv_X14_32_J6 : EntV g RX14 (.invokevirtual 32) 3 RJ6 mJ6_append.1 1 := entV_V (M := mJ6_append) q1262 q433 q434 q435 ⟨by decide +kernel, by decide +kernel⟩ (by decide +kernel)
theorem cv_X14_38_X14 : EntV g RX14 (.invokevirtual 38) 3 RX14 mX8_writePart.1 3 := entV_U (M := mX8_writePart) (x := ⟨"DanceNotation$Mirrored", "writePart", "(Ljava/lang/StringBuilder;LDanceNotation$Node;Z)V"⟩) (owner := "DanceNotation$Node") q1263 q1264 (decl_m (M0 := mX8_writePart) q1267 q1268) ⟨by decide +kernel, by decide +kernel⟩ q1266 q1267 (by decide +kernel)
theorem ci_X14_3 {C : String} : EntV g RX14 (.invokespecial 3) 3 C mX9_init.1 1 := entV_I (M := mX9_init) rfl rfl rfl q1920 q1921 q1922 ⟨by decide +kernel, by decide +kernel⟩ (by decide +kernel)
theorem cv_X14_25_X10 : EntV g RX14 (.invokevirtual 25) 3 RX10 mX10_renamed.1 1 := entV_U (M := mX10_renamed) (x := ⟨"DanceNotation$Node", "renamed", "([I)LDanceNotation$Node;"⟩) (owner := "DanceNotation$Node") q2249 q2241 (decl_d q2240) ⟨by decide +kernel, by decide +kernel⟩ q2271 q2254 (by decide +kernel)
theorem cv_X14_25_X12 : EntV g RX14 (.invokevirtual 25) 3 RX12 mX12_renamed.1 1 := entV_U (M := mX12_renamed) (x := ⟨"DanceNotation$Node", "renamed", "([I)LDanceNotation$Node;"⟩) (owner := "DanceNotation$Node") q2249 q2241 (decl_d q2240) ⟨by decide +kernel, by decide +kernel⟩ q2242 q2243 (by decide +kernel)
theorem cv_X14_25_X13 : EntV g RX14 (.invokevirtual 25) 3 RX13 mX13_renamed.1 1 := entV_U (M := mX13_renamed) (x := ⟨"DanceNotation$Node", "renamed", "([I)LDanceNotation$Node;"⟩) (owner := "DanceNotation$Node") q2249 q2241 (decl_d q2240) ⟨by decide +kernel, by decide +kernel⟩ q2270 q2250 (by decide +kernel)
theorem cv_X14_25_X14 : EntV g RX14 (.invokevirtual 25) 3 RX14 mX14_renamed.1 1 := entV_U (M := mX14_renamed) (x := ⟨"DanceNotation$Node", "renamed", "([I)LDanceNotation$Node;"⟩) (owner := "DanceNotation$Node") q2249 q2241 (decl_d q2240) ⟨by decide +kernel, by decide +kernel⟩ q2245 q2246 (by decide +kernel)
theorem cv_X14_25_X15 : EntV g RX14 (.invokevirtual 25) 3 RX15 mX15_renamed.1 1 := entV_U (M := mX15_renamed) (x := ⟨"DanceNotation$Node", "renamed", "([I)LDanceNotation$Node;"⟩) (owner := "DanceNotation$Node") q2249 q2241 (decl_d q2240) ⟨by decide +kernel, by decide +kernel⟩ q2272 q2257 (by decide +kernel)
theorem cv_X14_25_X16 : EntV g RX14 (.invokevirtual 25) 3 RX16 mX16_renamed.1 1 := entV_U (M := mX16_renamed) (x := ⟨"DanceNotation$Node", "renamed", "([I)LDanceNotation$Node;"⟩) (owner := "DanceNotation$Node") q2249 q2241 (decl_d q2240) ⟨by decide +kernel, by decide +kernel⟩ q2273 q2261 (by decide +kernel)
theorem ci_X14_29 {C : String} : EntV g RX14 (.invokespecial 29) 3 C mX14_init.1 1 := entV_I (M := mX14_init) rfl rfl rfl q2269 q1918 q1919 ⟨by decide +kernel, by decide +kernel⟩ (by decide +kernel)
theorem cv_X14_21_X10 : EntV g RX14 (.invokevirtual 21) 3 RX10 mX10_displacement.1 2 := entV_U (M := mX10_displacement) (x := ⟨"DanceNotation$Node", "displacement", "(IZ)I"⟩) (owner := "DanceNotation$Node") q2444 q2437 (decl_d q2436) ⟨by decide +kernel, by decide +kernel⟩ q2460 q2450 (by decide +kernel)
theorem cv_X14_21_X12 : EntV g RX14 (.invokevirtual 21) 3 RX12 mX12_displacement.1 2 := entV_U (M := mX12_displacement) (x := ⟨"DanceNotation$Node", "displacement", "(IZ)I"⟩) (owner := "DanceNotation$Node") q2444 q2437 (decl_d q2436) ⟨by decide +kernel, by decide +kernel⟩ q2438 q2439 (by decide +kernel)
theorem cv_X14_21_X13 : EntV g RX14 (.invokevirtual 21) 3 RX13 mX13_displacement.1 2 := entV_U (M := mX13_displacement) (x := ⟨"DanceNotation$Node", "displacement", "(IZ)I"⟩) (owner := "DanceNotation$Node") q2444 q2437 (decl_d q2436) ⟨by decide +kernel, by decide +kernel⟩ q2459 q2445 (by decide +kernel)
theorem cv_X14_21_X14 : EntV g RX14 (.invokevirtual 21) 3 RX14 mX14_displacement.1 2 := entV_U (M := mX14_displacement) (x := ⟨"DanceNotation$Node", "displacement", "(IZ)I"⟩) (owner := "DanceNotation$Node") q2444 q2437 (decl_d q2436) ⟨by decide +kernel, by decide +kernel⟩ q2441 q2442 (by decide +kernel)
theorem cv_X14_21_X15 : EntV g RX14 (.invokevirtual 21) 3 RX15 mX15_displacement.1 2 := entV_U (M := mX15_displacement) (x := ⟨"DanceNotation$Node", "displacement", "(IZ)I"⟩) (owner := "DanceNotation$Node") q2444 q2437 (decl_d q2436) ⟨by decide +kernel, by decide +kernel⟩ q2461 q2453 (by decide +kernel)
theorem cv_X14_21_X16 : EntV g RX14 (.invokevirtual 21) 3 RX16 mX16_displacement.1 2 := entV_U (M := mX16_displacement) (x := ⟨"DanceNotation$Node", "displacement", "(IZ)I"⟩) (owner := "DanceNotation$Node") q2444 q2437 (decl_d q2436) ⟨by decide +kernel, by decide +kernel⟩ q2462 q2456 (by decide +kernel)
theorem cv_X15_15_X10 : EntV g RX15 (.invokevirtual 15) 3 RX10 mX10_perform.1 4 := entV_U (M := mX10_perform) (x := ⟨"DanceNotation$Node", "perform", "(LDanceNotation$Score;IIZ)V"⟩) (owner := "DanceNotation$Node") q1231 q1188 (decl_d q1187) ⟨by decide +kernel, by decide +kernel⟩ q1237 q1225 (by decide +kernel)
theorem cv_X15_15_X12 : EntV g RX15 (.invokevirtual 15) 3 RX12 mX12_perform.1 4 := entV_U (M := mX12_perform) (x := ⟨"DanceNotation$Node", "perform", "(LDanceNotation$Score;IIZ)V"⟩) (owner := "DanceNotation$Node") q1231 q1188 (decl_d q1187) ⟨by decide +kernel, by decide +kernel⟩ q1189 q1190 (by decide +kernel)
theorem cv_X15_15_X13 : EntV g RX15 (.invokevirtual 15) 3 RX13 mX13_perform.1 4 := entV_U (M := mX13_perform) (x := ⟨"DanceNotation$Node", "perform", "(LDanceNotation$Score;IIZ)V"⟩) (owner := "DanceNotation$Node") q1231 q1188 (decl_d q1187) ⟨by decide +kernel, by decide +kernel⟩ q1236 q1196 (by decide +kernel)
theorem cv_X15_15_X14 : EntV g RX15 (.invokevirtual 15) 3 RX14 mX14_perform.1 4 := entV_U (M := mX14_perform) (x := ⟨"DanceNotation$Node", "perform", "(LDanceNotation$Score;IIZ)V"⟩) (owner := "DanceNotation$Node") q1231 q1188 (decl_d q1187) ⟨by decide +kernel, by decide +kernel⟩ q1192 q1193 (by decide +kernel)
theorem cv_X15_15_X15 : EntV g RX15 (.invokevirtual 15) 3 RX15 mX15_perform.1 4 := entV_U (M := mX15_perform) (x := ⟨"DanceNotation$Node", "perform", "(LDanceNotation$Score;IIZ)V"⟩) (owner := "DanceNotation$Node") q1231 q1188 (decl_d q1187) ⟨by decide +kernel, by decide +kernel⟩ q1238 q1229 (by decide +kernel)
theorem cv_X15_15_X16 : EntV g RX15 (.invokevirtual 15) 3 RX16 mX16_perform.1 4 := entV_U (M := mX16_perform) (x := ⟨"DanceNotation$Node", "perform", "(LDanceNotation$Score;IIZ)V"⟩) (owner := "DanceNotation$Node") q1231 q1188 (decl_d q1187) ⟨by decide +kernel, by decide +kernel⟩ q1239 q1232 (by decide +kernel)
theorem cv_X15_32_J6 : EntV g RX15 (.invokevirtual 32) 3 RJ6 mJ6_append.1 1 := entV_V (M := mJ6_append) q1303 q433 q434 q435 ⟨by decide +kernel, by decide +kernel⟩ (by decide +kernel)
theorem cv_X15_38_X15 : EntV g RX15 (.invokevirtual 38) 3 RX15 mX8_writePart.1 3 := entV_U (M := mX8_writePart) (x := ⟨"DanceNotation$Reversed", "writePart", "(Ljava/lang/StringBuilder;LDanceNotation$Node;Z)V"⟩) (owner := "DanceNotation$Node") q1304 q1305 (decl_m (M0 := mX8_writePart) q1267 q1268) ⟨by decide +kernel, by decide +kernel⟩ q1306 q1267 (by decide +kernel)
theorem ci_X15_3 {C : String} : EntV g RX15 (.invokespecial 3) 3 C mX9_init.1 1 := entV_I (M := mX9_init) rfl rfl rfl q1941 q1921 q1922 ⟨by decide +kernel, by decide +kernel⟩ (by decide +kernel)
theorem cv_X15_25_X10 : EntV g RX15 (.invokevirtual 25) 3 RX10 mX10_renamed.1 1 := entV_U (M := mX10_renamed) (x := ⟨"DanceNotation$Node", "renamed", "([I)LDanceNotation$Node;"⟩) (owner := "DanceNotation$Node") q2260 q2241 (decl_d q2240) ⟨by decide +kernel, by decide +kernel⟩ q2271 q2254 (by decide +kernel)
theorem cv_X15_25_X12 : EntV g RX15 (.invokevirtual 25) 3 RX12 mX12_renamed.1 1 := entV_U (M := mX12_renamed) (x := ⟨"DanceNotation$Node", "renamed", "([I)LDanceNotation$Node;"⟩) (owner := "DanceNotation$Node") q2260 q2241 (decl_d q2240) ⟨by decide +kernel, by decide +kernel⟩ q2242 q2243 (by decide +kernel)
theorem cv_X15_25_X13 : EntV g RX15 (.invokevirtual 25) 3 RX13 mX13_renamed.1 1 := entV_U (M := mX13_renamed) (x := ⟨"DanceNotation$Node", "renamed", "([I)LDanceNotation$Node;"⟩) (owner := "DanceNotation$Node") q2260 q2241 (decl_d q2240) ⟨by decide +kernel, by decide +kernel⟩ q2270 q2250 (by decide +kernel)
theorem cv_X15_25_X14 : EntV g RX15 (.invokevirtual 25) 3 RX14 mX14_renamed.1 1 := entV_U (M := mX14_renamed) (x := ⟨"DanceNotation$Node", "renamed", "([I)LDanceNotation$Node;"⟩) (owner := "DanceNotation$Node") q2260 q2241 (decl_d q2240) ⟨by decide +kernel, by decide +kernel⟩ q2245 q2246 (by decide +kernel)
theorem cv_X15_25_X15 : EntV g RX15 (.invokevirtual 25) 3 RX15 mX15_renamed.1 1 := entV_U (M := mX15_renamed) (x := ⟨"DanceNotation$Node", "renamed", "([I)LDanceNotation$Node;"⟩) (owner := "DanceNotation$Node") q2260 q2241 (decl_d q2240) ⟨by decide +kernel, by decide +kernel⟩ q2272 q2257 (by decide +kernel)
theorem cv_X15_25_X16 : EntV g RX15 (.invokevirtual 25) 3 RX16 mX16_renamed.1 1 := entV_U (M := mX16_renamed) (x := ⟨"DanceNotation$Node", "renamed", "([I)LDanceNotation$Node;"⟩) (owner := "DanceNotation$Node") q2260 q2241 (decl_d q2240) ⟨by decide +kernel, by decide +kernel⟩ q2273 q2261 (by decide +kernel)
theorem ci_X15_29 {C : String} : EntV g RX15 (.invokespecial 29) 3 C mX15_init.1 1 := entV_I (M := mX15_init) rfl rfl rfl q2267 q1939 q1940 ⟨by decide +kernel, by decide +kernel⟩ (by decide +kernel)
theorem cv_X15_21_X10 : EntV g RX15 (.invokevirtual 21) 3 RX10 mX10_displacement.1 2 := entV_U (M := mX10_displacement) (x := ⟨"DanceNotation$Node", "displacement", "(IZ)I"⟩) (owner := "DanceNotation$Node") q2455 q2437 (decl_d q2436) ⟨by decide +kernel, by decide +kernel⟩ q2460 q2450 (by decide +kernel)
theorem cv_X15_21_X12 : EntV g RX15 (.invokevirtual 21) 3 RX12 mX12_displacement.1 2 := entV_U (M := mX12_displacement) (x := ⟨"DanceNotation$Node", "displacement", "(IZ)I"⟩) (owner := "DanceNotation$Node") q2455 q2437 (decl_d q2436) ⟨by decide +kernel, by decide +kernel⟩ q2438 q2439 (by decide +kernel)
theorem cv_X15_21_X13 : EntV g RX15 (.invokevirtual 21) 3 RX13 mX13_displacement.1 2 := entV_U (M := mX13_displacement) (x := ⟨"DanceNotation$Node", "displacement", "(IZ)I"⟩) (owner := "DanceNotation$Node") q2455 q2437 (decl_d q2436) ⟨by decide +kernel, by decide +kernel⟩ q2459 q2445 (by decide +kernel)
theorem cv_X15_21_X14 : EntV g RX15 (.invokevirtual 21) 3 RX14 mX14_displacement.1 2 := entV_U (M := mX14_displacement) (x := ⟨"DanceNotation$Node", "displacement", "(IZ)I"⟩) (owner := "DanceNotation$Node") q2455 q2437 (decl_d q2436) ⟨by decide +kernel, by decide +kernel⟩ q2441 q2442 (by decide +kernel)
theorem cv_X15_21_X15 : EntV g RX15 (.invokevirtual 21) 3 RX15 mX15_displacement.1 2 := entV_U (M := mX15_displacement) (x := ⟨"DanceNotation$Node", "displacement", "(IZ)I"⟩) (owner := "DanceNotation$Node") q2455 q2437 (decl_d q2436) ⟨by decide +kernel, by decide +kernel⟩ q2461 q2453 (by decide +kernel)
theorem cv_X15_21_X16 : EntV g RX15 (.invokevirtual 21) 3 RX16 mX16_displacement.1 2 := entV_U (M := mX16_displacement) (x := ⟨"DanceNotation$Node", "displacement", "(IZ)I"⟩) (owner := "DanceNotation$Node") q2455 q2437 (decl_d q2436) ⟨by decide +kernel, by decide +kernel⟩ q2462 q2456 (by decide +kernel)
theorem cv_X16_19_J26 : EntV g RX16 (.invokevirtual 19) 3 RJ26 mJ26_size.1 0 := entV_V (M := mJ26_size) q875 q788 q3292 q789 ⟨by decide +kernel, by decide +kernel⟩ (by decide +kernel)
theorem cv_X16_25_J26 : EntV g RX16 (.invokevirtual 25) 3 RJ26 mJ26_get.1 1 := entV_V (M := mJ26_get) q894 q895 q896 q897 ⟨by decide +kernel, by decide +kernel⟩ (by decide +kernel)
theorem cv_X16_32_X10 : EntV g RX16 (.invokevirtual 32) 3 RX10 mX10_length.1 0 := entV_U (M := mX10_length) (x := ⟨"DanceNotation$Node", "length", "()I"⟩) (owner := "DanceNotation$Node") q1134 q1117 (decl_d q1116) ⟨by decide +kernel, by decide +kernel⟩ q1137 q1128 (by decide +kernel)
theorem cv_X16_32_X12 : EntV g RX16 (.invokevirtual 32) 3 RX12 mX12_length.1 0 := entV_U (M := mX12_length) (x := ⟨"DanceNotation$Node", "length", "()I"⟩) (owner := "DanceNotation$Node") q1134 q1117 (decl_d q1116) ⟨by decide +kernel, by decide +kernel⟩ q1118 q1119 (by decide +kernel)
theorem cv_X16_32_X13 : EntV g RX16 (.invokevirtual 32) 3 RX13 mX13_length.1 0 := entV_U (M := mX13_length) (x := ⟨"DanceNotation$Node", "length", "()I"⟩) (owner := "DanceNotation$Node") q1134 q1117 (decl_d q1116) ⟨by decide +kernel, by decide +kernel⟩ q1136 q1125 (by decide +kernel)
theorem cv_X16_32_X14 : EntV g RX16 (.invokevirtual 32) 3 RX14 mX9_length.1 0 := entV_U (M := mX9_length) (x := ⟨"DanceNotation$Node", "length", "()I"⟩) (owner := "DanceNotation$Node") q1134 q1117 (decl_d q1116) ⟨by decide +kernel, by decide +kernel⟩ q1121 q1122 (by decide +kernel)
theorem cv_X16_32_X15 : EntV g RX16 (.invokevirtual 32) 3 RX15 mX9_length.1 0 := entV_U (M := mX9_length) (x := ⟨"DanceNotation$Node", "length", "()I"⟩) (owner := "DanceNotation$Node") q1134 q1117 (decl_d q1116) ⟨by decide +kernel, by decide +kernel⟩ q1138 q1122 (by decide +kernel)
theorem cv_X16_32_X16 : EntV g RX16 (.invokevirtual 32) 3 RX16 mX16_length.1 0 := entV_U (M := mX16_length) (x := ⟨"DanceNotation$Node", "length", "()I"⟩) (owner := "DanceNotation$Node") q1134 q1117 (decl_d q1116) ⟨by decide +kernel, by decide +kernel⟩ q1139 q1132 (by decide +kernel)
theorem cs_X16_35 : EntS g RX16 (.invokestatic 35) 3 mJ19_max.1 2 := entS_S (M := mJ19_max) q1135 q455 q143 q456 ⟨by decide +kernel, by decide +kernel⟩ (by decide +kernel)
theorem cv_X16_58_X16 : EntV g RX16 (.invokevirtual 58) 3 RX16 mX16_length.1 0 := entV_V (M := mX16_length) q1234 q1132 q3296 q1133 ⟨by decide +kernel, by decide +kernel⟩ (by decide +kernel)
theorem cv_X16_59_X10 : EntV g RX16 (.invokevirtual 59) 3 RX10 mX10_perform.1 4 := entV_U (M := mX10_perform) (x := ⟨"DanceNotation$Node", "perform", "(LDanceNotation$Score;IIZ)V"⟩) (owner := "DanceNotation$Node") q1235 q1188 (decl_d q1187) ⟨by decide +kernel, by decide +kernel⟩ q1237 q1225 (by decide +kernel)
theorem cv_X16_59_X12 : EntV g RX16 (.invokevirtual 59) 3 RX12 mX12_perform.1 4 := entV_U (M := mX12_perform) (x := ⟨"DanceNotation$Node", "perform", "(LDanceNotation$Score;IIZ)V"⟩) (owner := "DanceNotation$Node") q1235 q1188 (decl_d q1187) ⟨by decide +kernel, by decide +kernel⟩ q1189 q1190 (by decide +kernel)
theorem cv_X16_59_X13 : EntV g RX16 (.invokevirtual 59) 3 RX13 mX13_perform.1 4 := entV_U (M := mX13_perform) (x := ⟨"DanceNotation$Node", "perform", "(LDanceNotation$Score;IIZ)V"⟩) (owner := "DanceNotation$Node") q1235 q1188 (decl_d q1187) ⟨by decide +kernel, by decide +kernel⟩ q1236 q1196 (by decide +kernel)
theorem cv_X16_59_X14 : EntV g RX16 (.invokevirtual 59) 3 RX14 mX14_perform.1 4 := entV_U (M := mX14_perform) (x := ⟨"DanceNotation$Node", "perform", "(LDanceNotation$Score;IIZ)V"⟩) (owner := "DanceNotation$Node") q1235 q1188 (decl_d q1187) ⟨by decide +kernel, by decide +kernel⟩ q1192 q1193 (by decide +kernel)
theorem cv_X16_59_X15 : EntV g RX16 (.invokevirtual 59) 3 RX15 mX15_perform.1 4 := entV_U (M := mX15_perform) (x := ⟨"DanceNotation$Node", "perform", "(LDanceNotation$Score;IIZ)V"⟩) (owner := "DanceNotation$Node") q1235 q1188 (decl_d q1187) ⟨by decide +kernel, by decide +kernel⟩ q1238 q1229 (by decide +kernel)
theorem cv_X16_59_X16 : EntV g RX16 (.invokevirtual 59) 3 RX16 mX16_perform.1 4 := entV_U (M := mX16_perform) (x := ⟨"DanceNotation$Node", "perform", "(LDanceNotation$Score;IIZ)V"⟩) (owner := "DanceNotation$Node") q1235 q1188 (decl_d q1187) ⟨by decide +kernel, by decide +kernel⟩ q1239 q1232 (by decide +kernel)
theorem cv_X16_82_J6 : EntV g RX16 (.invokevirtual 82) 3 RJ6 mJ6_append.1 1 := entV_V (M := mJ6_append) q1312 q433 q434 q435 ⟨by decide +kernel, by decide +kernel⟩ (by decide +kernel)
theorem cv_X16_88_X16 : EntV g RX16 (.invokevirtual 88) 3 RX16 mX8_writePart.1 3 := entV_U (M := mX8_writePart) (x := ⟨"DanceNotation$Several", "writePart", "(Ljava/lang/StringBuilder;LDanceNotation$Node;Z)V"⟩) (owner := "DanceNotation$Node") q1314 q1315 (decl_m (M0 := mX8_writePart) q1267 q1268) ⟨by decide +kernel, by decide +kernel⟩ q1316 q1267 (by decide +kernel)
theorem ci_X16_29 {C : String} : EntV g RX16 (.invokespecial 29) 3 C mX16_init.1 2 := entV_I (M := mX16_init) rfl rfl rfl q1956 q1957 q1958 ⟨by decide +kernel, by decide +kernel⟩ (by decide +kernel)
theorem cs_X16_46 : EntS g RX16 (.invokestatic 46) 3 mJ28_numberOfTrailingZeros.1 1 := entS_S (M := mJ28_numberOfTrailingZeros) q2087 q1997 q160 q1998 ⟨by decide +kernel, by decide +kernel⟩ (by decide +kernel)
theorem ci_X16_52 {C : String} : EntV g RX16 (.invokespecial 52) 3 C mX17_init.1 2 := entV_I (M := mX17_init) rfl rfl rfl q2088 q2001 q2002 ⟨by decide +kernel, by decide +kernel⟩ (by decide +kernel)
theorem cu_X16_55 {C : String} : EntV g RX16 (.invokespecial 55) 3 C mX8_check.1 0 := entV_SU (M := mX8_check) q2089 q1981 q1967 q1980 q2018 (by decide +kernel) (by decide +kernel)
theorem ci_X16_67 {C : String} : EntV g RX16 (.invokespecial 67) 3 C mJ26_init.1 0 := entV_I (M := mJ26_init) rfl rfl rfl q2264 q1617 q1618 ⟨by decide +kernel, by decide +kernel⟩ (by decide +kernel)
theorem cv_X16_68_X10 : EntV g RX16 (.invokevirtual 68) 3 RX10 mX10_renamed.1 1 := entV_U (M := mX10_renamed) (x := ⟨"DanceNotation$Node", "renamed", "([I)LDanceNotation$Node;"⟩) (owner := "DanceNotation$Node") q2265 q2241 (decl_d q2240) ⟨by decide +kernel, by decide +kernel⟩ q2271 q2254 (by decide +kernel)
theorem cv_X16_68_X12 : EntV g RX16 (.invokevirtual 68) 3 RX12 mX12_renamed.1 1 := entV_U (M := mX12_renamed) (x := ⟨"DanceNotation$Node", "renamed", "([I)LDanceNotation$Node;"⟩) (owner := "DanceNotation$Node") q2265 q2241 (decl_d q2240) ⟨by decide +kernel, by decide +kernel⟩ q2242 q2243 (by decide +kernel)
theorem cv_X16_68_X13 : EntV g RX16 (.invokevirtual 68) 3 RX13 mX13_renamed.1 1 := entV_U (M := mX13_renamed) (x := ⟨"DanceNotation$Node", "renamed", "([I)LDanceNotation$Node;"⟩) (owner := "DanceNotation$Node") q2265 q2241 (decl_d q2240) ⟨by decide +kernel, by decide +kernel⟩ q2270 q2250 (by decide +kernel)
theorem cv_X16_68_X14 : EntV g RX16 (.invokevirtual 68) 3 RX14 mX14_renamed.1 1 := entV_U (M := mX14_renamed) (x := ⟨"DanceNotation$Node", "renamed", "([I)LDanceNotation$Node;"⟩) (owner := "DanceNotation$Node") q2265 q2241 (decl_d q2240) ⟨by decide +kernel, by decide +kernel⟩ q2245 q2246 (by decide +kernel)
theorem cv_X16_68_X15 : EntV g RX16 (.invokevirtual 68) 3 RX15 mX15_renamed.1 1 := entV_U (M := mX15_renamed) (x := ⟨"DanceNotation$Node", "renamed", "([I)LDanceNotation$Node;"⟩) (owner := "DanceNotation$Node") q2265 q2241 (decl_d q2240) ⟨by decide +kernel, by decide +kernel⟩ q2272 q2257 (by decide +kernel)
theorem cv_X16_68_X16 : EntV g RX16 (.invokevirtual 68) 3 RX16 mX16_renamed.1 1 := entV_U (M := mX16_renamed) (x := ⟨"DanceNotation$Node", "renamed", "([I)LDanceNotation$Node;"⟩) (owner := "DanceNotation$Node") q2265 q2241 (decl_d q2240) ⟨by decide +kernel, by decide +kernel⟩ q2273 q2261 (by decide +kernel)
theorem cv_X16_72_J26 : EntV g RX16 (.invokevirtual 72) 3 RJ26 mJ26_add.1 1 := entV_V (M := mJ26_add) q2266 q1759 q1760 q1761 ⟨by decide +kernel, by decide +kernel⟩ (by decide +kernel)
theorem cv_X16_63_X10 : EntV g RX16 (.invokevirtual 63) 3 RX10 mX10_displacement.1 2 := entV_U (M := mX10_displacement) (x := ⟨"DanceNotation$Node", "displacement", "(IZ)I"⟩) (owner := "DanceNotation$Node") q2458 q2437 (decl_d q2436) ⟨by decide +kernel, by decide +kernel⟩ q2460 q2450 (by decide +kernel)
theorem cv_X16_63_X12 : EntV g RX16 (.invokevirtual 63) 3 RX12 mX12_displacement.1 2 := entV_U (M := mX12_displacement) (x := ⟨"DanceNotation$Node", "displacement", "(IZ)I"⟩) (owner := "DanceNotation$Node") q2458 q2437 (decl_d q2436) ⟨by decide +kernel, by decide +kernel⟩ q2438 q2439 (by decide +kernel)
theorem cv_X16_63_X13 : EntV g RX16 (.invokevirtual 63) 3 RX13 mX13_displacement.1 2 := entV_U (M := mX13_displacement) (x := ⟨"DanceNotation$Node", "displacement", "(IZ)I"⟩) (owner := "DanceNotation$Node") q2458 q2437 (decl_d q2436) ⟨by decide +kernel, by decide +kernel⟩ q2459 q2445 (by decide +kernel)
theorem cv_X16_63_X14 : EntV g RX16 (.invokevirtual 63) 3 RX14 mX14_displacement.1 2 := entV_U (M := mX14_displacement) (x := ⟨"DanceNotation$Node", "displacement", "(IZ)I"⟩) (owner := "DanceNotation$Node") q2458 q2437 (decl_d q2436) ⟨by decide +kernel, by decide +kernel⟩ q2441 q2442 (by decide +kernel)
theorem cv_X16_63_X15 : EntV g RX16 (.invokevirtual 63) 3 RX15 mX15_displacement.1 2 := entV_U (M := mX15_displacement) (x := ⟨"DanceNotation$Node", "displacement", "(IZ)I"⟩) (owner := "DanceNotation$Node") q2458 q2437 (decl_d q2436) ⟨by decide +kernel, by decide +kernel⟩ q2461 q2453 (by decide +kernel)
theorem cv_X16_63_X16 : EntV g RX16 (.invokevirtual 63) 3 RX16 mX16_displacement.1 2 := entV_U (M := mX16_displacement) (x := ⟨"DanceNotation$Node", "displacement", "(IZ)I"⟩) (owner := "DanceNotation$Node") q2458 q2437 (decl_d q2436) ⟨by decide +kernel, by decide +kernel⟩ q2462 q2456 (by decide +kernel)
theorem ci_X16_92 {C : String} : EntV g RX16 (.invokespecial 92) 3 C mJ26_init_2.1 1 := entV_I (M := mJ26_init_2) rfl rfl rfl q2639 q2640 q2641 ⟨by decide +kernel, by decide +kernel⟩ (by decide +kernel)
theorem ci_X17_1 {C : String} : EntV g RX17 (.invokespecial 1) 3 C mJ10_init_4.1 4 := entV_I (M := mJ10_init_4) rfl rfl rfl q2003 q1696 q1697 ⟨by decide +kernel, by decide +kernel⟩ (by decide +kernel)
theorem cv_X18_17_J3 : EntV g RX18 (.invokevirtual 17) 3 RJ3 mJ0_isEmpty.1 0 := entV_U (M := mJ0_isEmpty) (x := ⟨"java/util/LinkedList", "isEmpty", "()Z"⟩) (owner := "java/util/AbstractCollection") q772 q773 (decl_m (M0 := mJ0_isEmpty) q776 q777) ⟨by decide +kernel, by decide +kernel⟩ q775 q776 (by decide +kernel)
theorem cv_X18_41_X18 : EntV g RX18 (.invokevirtual 41) 3 RX18 mX18_next_2.1 0 := entV_V (M := mX18_next_2) q827 q828 q829 q830 ⟨by decide +kernel, by decide +kernel⟩ (by decide +kernel)
theorem cv_X18_23_J3 : EntV g RX18 (.invokevirtual 23) 3 RJ3 mJ3_removeFirst.1 0 := entV_V (M := mJ3_removeFirst) q831 q832 q833 q834 ⟨by decide +kernel, by decide +kernel⟩ (by decide +kernel)
theorem cv_X18_37_J3 : EntV g RX18 (.invokevirtual 37) 3 RJ3 mJ3_addFirst.1 1 := entV_V (M := mJ3_addFirst) q909 q910 q911 q912 ⟨by decide +kernel, by decide +kernel⟩ (by decide +kernel)
theorem ci_X19_17 {C : String} : EntV g RX19 (.invokespecial 17) 3 C mJ26_init.1 0 := entV_I (M := mJ26_init) rfl rfl rfl q2333 q1617 q1618 ⟨by decide +kernel, by decide +kernel⟩ (by decide +kernel)
theorem cv_X19_93_X19 : EntV g RX19 (.invokevirtual 93) 3 RX19 mX19_move.1 1 := entV_V (M := mX19_move) q2357 q2359 qs33 q2360 ⟨by decide +kernel, by decide +kernel⟩ (by decide +kernel)
theorem cv_X19_59_X2 : EntV g RX19 (.invokevirtual 59) 3 RX2 mX2_takesPart.1 1 := entV_V (M := mX2_takesPart) q2363 q2302 q2303 q2304 ⟨by decide +kernel, by decide +kernel⟩ (by decide +kernel)
theorem cv_X19_97_X19 : EntV g RX19 (.invokevirtual 97) 3 RX19 mX19_isOff.1 1 := entV_V (M := mX19_isOff) q2364 q2366 qs34 q2367 ⟨by decide +kernel, by decide +kernel⟩ (by decide +kernel)
theorem cv_X19_66_X19 : EntV g RX19 (.invokevirtual 66) 3 RX19 mX19_tell.1 4 := entV_V (M := mX19_tell) q2369 q2371 qs35 q2372 ⟨by decide +kernel, by decide +kernel⟩ (by decide +kernel)
theorem cv_X19_35_J26 : EntV g RX19 (.invokevirtual 35) 3 RJ26 mJ26_add.1 1 := entV_V (M := mJ26_add) q2373 q1759 q1760 q1761 ⟨by decide +kernel, by decide +kernel⟩ (by decide +kernel)
theorem cv_X19_100_X19 : EntV g RX19 (.invokevirtual 100) 3 RX19 mX19_inspectPairs.1 2 := entV_V (M := mX19_inspectPairs) q2374 q2376 qs36 q2377 ⟨by decide +kernel, by decide +kernel⟩ (by decide +kernel)
theorem cv_X19_56_X19 : EntV g RX19 (.invokevirtual 56) 3 RX19 mX19_isTogether.1 2 := entV_V (M := mX19_isTogether) q2378 q2380 qs37 q2381 ⟨by decide +kernel, by decide +kernel⟩ (by decide +kernel)
theorem cv_X19_63_X19 : EntV g RX19 (.invokevirtual 63) 3 RX19 mX19_haveExchanged.1 2 := entV_V (M := mX19_haveExchanged) q2382 q2384 qs38 q2385 ⟨by decide +kernel, by decide +kernel⟩ (by decide +kernel)
theorem cv_X19_52_X19 : EntV g RX19 (.invokevirtual 52) 3 RX19 mX19_isWhere.1 2 := entV_V (M := mX19_isWhere) q2386 q2388 qs39 q2389 ⟨by decide +kernel, by decide +kernel⟩ (by decide +kernel)
theorem cv_X2_66_X10 : EntV g RX2 (.invokevirtual 66) 3 RX10 mX8_score.1 0 := entV_V (M := mX8_score) q1103 q1104 q1109 q1112 ⟨by decide +kernel, by decide +kernel⟩ (by decide +kernel)
theorem cv_X2_66_X12 : EntV g RX2 (.invokevirtual 66) 3 RX12 mX8_score.1 0 := entV_V (M := mX8_score) q1103 q1104 q1106 q1112 ⟨by decide +kernel, by decide +kernel⟩ (by decide +kernel)
theorem cv_X2_66_X13 : EntV g RX2 (.invokevirtual 66) 3 RX13 mX8_score.1 0 := entV_V (M := mX8_score) q1103 q1104 q1108 q1112 ⟨by decide +kernel, by decide +kernel⟩ (by decide +kernel)
theorem cv_X2_66_X14 : EntV g RX2 (.invokevirtual 66) 3 RX14 mX8_score.1 0 := entV_V (M := mX8_score) q1103 q1104 q1107 q1112 ⟨by decide +kernel, by decide +kernel⟩ (by decide +kernel)
theorem cv_X2_66_X15 : EntV g RX2 (.invokevirtual 66) 3 RX15 mX8_score.1 0 := entV_V (M := mX8_score) q1103 q1104 q1110 q1112 ⟨by decide +kernel, by decide +kernel⟩ (by decide +kernel)
theorem cv_X2_66_X16 : EntV g RX2 (.invokevirtual 66) 3 RX16 mX8_score.1 0 := entV_V (M := mX8_score) q1103 q1104 q1111 q1112 ⟨by decide +kernel, by decide +kernel⟩ (by decide +kernel)
theorem cv_X2_57_X2 : EntV g RX2 (.invokevirtual 57) 3 RX2 mX2_text.1 0 := entV_V (M := mX2_text) q1244 q1245 q1246 q1247 ⟨by decide +kernel, by decide +kernel⟩ (by decide +kernel)
theorem ci_X2_46 {C : String} : EntV g RX2 (.invokespecial 46) 3 C mJ6_init.1 0 := entV_I (M := mJ6_init) rfl rfl rfl q1249 q286 q287 ⟨by decide +kernel, by decide +kernel⟩ (by decide +kernel)
theorem cv_X2_47_X10 : EntV g RX2 (.invokevirtual 47) 3 RX10 mX10_write.1 1 := entV_U (M := mX10_write) (x := ⟨"DanceNotation$Node", "write", "(Ljava/lang/StringBuilder;)V"⟩) (owner := "DanceNotation$Node") q1250 q1252 (decl_d q1251) ⟨by decide +kernel, by decide +kernel⟩ q1319 q1292 (by decide +kernel)
theorem cv_X2_47_X12 : EntV g RX2 (.invokevirtual 47) 3 RX12 mX12_write.1 1 := entV_U (M := mX12_write) (x := ⟨"DanceNotation$Node", "write", "(Ljava/lang/StringBuilder;)V"⟩) (owner := "DanceNotation$Node") q1250 q1252 (decl_d q1251) ⟨by decide +kernel, by decide +kernel⟩ q1253 q1254 (by decide +kernel)
theorem cv_X2_47_X13 : EntV g RX2 (.invokevirtual 47) 3 RX13 mX13_write.1 1 := entV_U (M := mX13_write) (x := ⟨"DanceNotation$Node", "write", "(Ljava/lang/StringBuilder;)V"⟩) (owner := "DanceNotation$Node") q1250 q1252 (decl_d q1251) ⟨by decide +kernel, by decide +kernel⟩ q1318 q1273 (by decide +kernel)
theorem cv_X2_47_X14 : EntV g RX2 (.invokevirtual 47) 3 RX14 mX14_write.1 1 := entV_U (M := mX14_write) (x := ⟨"DanceNotation$Node", "write", "(Ljava/lang/StringBuilder;)V"⟩) (owner := "DanceNotation$Node") q1250 q1252 (decl_d q1251) ⟨by decide +kernel, by decide +kernel⟩ q1258 q1259 (by decide +kernel)
theorem cv_X2_47_X15 : EntV g RX2 (.invokevirtual 47) 3 RX15 mX15_write.1 1 := entV_U (M := mX15_write) (x := ⟨"DanceNotation$Node", "write", "(Ljava/lang/StringBuilder;)V"⟩) (owner := "DanceNotation$Node") q1250 q1252 (decl_d q1251) ⟨by decide +kernel, by decide +kernel⟩ q1320 q1300 (by decide +kernel)
theorem cv_X2_47_X16 : EntV g RX2 (.invokevirtual 47) 3 RX16 mX16_write.1 1 := entV_U (M := mX16_write) (x := ⟨"DanceNotation$Node", "write", "(Ljava/lang/StringBuilder;)V"⟩) (owner := "DanceNotation$Node") q1250 q1252 (decl_d q1251) ⟨by decide +kernel, by decide +kernel⟩ q1321 q1307 (by decide +kernel)
theorem cv_X2_53_J6 : EntV g RX2 (.invokevirtual 53) 3 RJ6 mJ6_toString.1 0 := entV_V (M := mJ6_toString) q1322 q579 q580 q581 ⟨by decide +kernel, by decide +kernel⟩ (by decide +kernel)
theorem cv_X2_60_J7 : EntV g RX2 (.invokevirtual 60) 3 RJ7 mJ7_equals.1 1 := entV_V (M := mJ7_equals) q1323 q1324 q1325 q1326 ⟨by decide +kernel, by decide +kernel⟩ (by decide +kernel)
theorem ci_X2_27 {C : String} : EntV g RX2 (.invokespecial 27) 3 C mX2_init.1 2 := entV_I (M := mX2_init) rfl rfl rfl q1340 q188 q189 ⟨by decide +kernel, by decide +kernel⟩ (by decide +kernel)
theorem cv_X2_87_X19 : EntV g RX2 (.invokevirtual 87) 3 RX19 mX19_inspect.1 0 := entV_V (M := mX19_inspect) q2353 q2354 q2355 q2356 ⟨by decide +kernel, by decide +kernel⟩ (by decide +kernel)
theorem cv_X2_94_X20 : EntV g RX2 (.invokevirtual 94) 3 RX20 mX20_plan.1 1 := entV_V (M := mX20_plan) q2562 q2563 q2564 q2565 ⟨by decide +kernel, by decide +kernel⟩ (by decide +kernel)
theorem cv_X2_104_X16 : EntV g RX2 (.invokevirtual 104) 3 RX16 mX16_with.1 1 := entV_V (M := mX16_with) q2635 q2636 q2637 q2638 ⟨by decide +kernel, by decide +kernel⟩ (by decide +kernel)
theorem ci_X2_110 {C : String} : EntV g RX2 (.invokespecial 110) 3 C mJ26_init.1 0 := entV_I (M := mJ26_init) rfl rfl rfl q2658 q1617 q1618 ⟨by decide +kernel, by decide +kernel⟩ (by decide +kernel)
theorem cv_X2_111_J26 : EntV g RX2 (.invokevirtual 111) 3 RJ26 mJ26_add.1 1 := entV_V (M := mJ26_add) q2659 q1759 q1760 q1761 ⟨by decide +kernel, by decide +kernel⟩ (by decide +kernel)
theorem ci_X2_114 {C : String} : EntV g RX2 (.invokespecial 114) 3 C mX16_init.1 2 := entV_I (M := mX16_init) rfl rfl rfl q2660 q1957 q1958 ⟨by decide +kernel, by decide +kernel⟩ (by decide +kernel)
theorem ci_X20_23 {C : String} : EntV g RX20 (.invokespecial 23) 3 C mJ26_init.1 0 := entV_I (M := mJ26_init) rfl rfl rfl q2551 q1617 q1618 ⟨by decide +kernel, by decide +kernel⟩ (by decide +kernel)
theorem cv_X20_116_X2 : EntV g RX20 (.invokevirtual 116) 3 RX2 mX2_takesPart.1 1 := entV_V (M := mX2_takesPart) q2566 q2302 q2303 q2304 ⟨by decide +kernel, by decide +kernel⟩ (by decide +kernel)
theorem cv_X20_120_X20 : EntV g RX20 (.invokevirtual 120) 3 RX20 mX20_end.1 1 := entV_V (M := mX20_end) q2567 q2569 qs41 q2570 ⟨by decide +kernel, by decide +kernel⟩ (by decide +kernel)
theorem cv_X20_43_X2 : EntV g RX20 (.invokevirtual 43) 3 RX2 mX2_position.1 3 := entV_V (M := mX2_position) q2571 q2306 q2307 q2308 ⟨by decide +kernel, by decide +kernel⟩ (by decide +kernel)
theorem cv_X20_126_X20 : EntV g RX20 (.invokevirtual 126) 3 RX20 mX20_keep.1 3 := entV_V (M := mX20_keep) q2573 q2575 qs42 q2576 ⟨by decide +kernel, by decide +kernel⟩ (by decide +kernel)
theorem cv_X20_73_J7 : EntV g RX20 (.invokevirtual 73) 3 RJ7 mJ7_length.1 0 := entV_V (M := mJ7_length) q2577 q510 q511 q512 ⟨by decide +kernel, by decide +kernel⟩ (by decide +kernel)
theorem cv_X20_77_J7 : EntV g RX20 (.invokevirtual 77) 3 RJ7 mJ7_charAt.1 1 := entV_V (M := mJ7_charAt) q2578 q1200 q1201 q1202 ⟨by decide +kernel, by decide +kernel⟩ (by decide +kernel)
theorem cv_X20_81_X20 : EntV g RX20 (.invokevirtual 81) 3 RX20 mX20_neighbor.1 2 := entV_V (M := mX20_neighbor) q2579 q2581 qs43 q2582 ⟨by decide +kernel, by decide +kernel⟩ (by decide +kernel)
theorem cv_X20_130_X20 : EntV g RX20 (.invokevirtual 130) 3 RX20 mX20_find.1 2 := entV_V (M := mX20_find) q2586 q2588 qs44 q2589 ⟨by decide +kernel, by decide +kernel⟩ (by decide +kernel)
theorem cv_X20_85_X20 : EntV g RX20 (.invokevirtual 85) 3 RX20 mX20_reachable.1 1 := entV_V (M := mX20_reachable) q2590 q2592 qs45 q2593 ⟨by decide +kernel, by decide +kernel⟩ (by decide +kernel)
theorem cv_X20_65_X2 : EntV g RX20 (.invokevirtual 65) 3 RX2 mX2_places.1 0 := entV_V (M := mX2_places) q2594 q1432 q1433 q1434 ⟨by decide +kernel, by decide +kernel⟩ (by decide +kernel)
theorem cv_X20_61_X20 : EntV g RX20 (.invokevirtual 61) 3 RX20 mX20_canGo.1 3 := entV_V (M := mX20_canGo) q2598 q2600 qs46 q2601 ⟨by decide +kernel, by decide +kernel⟩ (by decide +kernel)
theorem cv_X20_89_X20 : EntV g RX20 (.invokevirtual 89) 3 RX20 mX20_canStay.1 2 := entV_V (M := mX20_canStay) q2602 q2604 qs47 q2605 ⟨by decide +kernel, by decide +kernel⟩ (by decide +kernel)
theorem cv_X20_93_X20 : EntV g RX20 (.invokevirtual 93) 3 RX20 mX20_leadTo.1 2 := entV_V (M := mX20_leadTo) q2606 q2608 qs48 q2609 ⟨by decide +kernel, by decide +kernel⟩ (by decide +kernel)
theorem cv_X20_97_X20 : EntV g RX20 (.invokevirtual 97) 3 RX20 mX20_follow.1 2 := entV_V (M := mX20_follow) q2610 q2612 qs49 q2613 ⟨by decide +kernel, by decide +kernel⟩ (by decide +kernel)
theorem ci_X20_103 {C : String} : EntV g RX20 (.invokespecial 103) 3 C mJ6_init.1 0 := entV_I (M := mJ6_init) rfl rfl rfl q2615 q286 q287 ⟨by decide +kernel, by decide +kernel⟩ (by decide +kernel)
theorem cv_X20_104_X20 : EntV g RX20 (.invokevirtual 104) 3 RX20 mX20_isStep.1 4 := entV_V (M := mX20_isStep) q2616 q2618 qs50 q2619 ⟨by decide +kernel, by decide +kernel⟩ (by decide +kernel)
theorem cv_X20_108_J6 : EntV g RX20 (.invokevirtual 108) 3 RJ6 mJ6_append_3.1 1 := entV_V (M := mJ6_append_3) q2620 q1279 q1280 q1281 ⟨by decide +kernel, by decide +kernel⟩ (by decide +kernel)
theorem cv_X20_112_J6 : EntV g RX20 (.invokevirtual 112) 3 RJ6 mJ6_toString.1 0 := entV_V (M := mJ6_toString) q2621 q579 q580 q581 ⟨by decide +kernel, by decide +kernel⟩ (by decide +kernel)
theorem cv_X20_134_J7 : EntV g RX20 (.invokevirtual 134) 3 RJ7 mJ7_isEmpty.1 0 := entV_V (M := mJ7_isEmpty) q2622 q2623 q2624 q2625 ⟨by decide +kernel, by decide +kernel⟩ (by decide +kernel)
theorem ci_X20_140 {C : String} : EntV g RX20 (.invokespecial 140) 3 C mX13_init.1 3 := entV_I (M := mX13_init) rfl rfl rfl q2627 q1898 q1899 ⟨by decide +kernel, by decide +kernel⟩ (by decide +kernel)
theorem cv_X20_143_J26 : EntV g RX20 (.invokevirtual 143) 3 RJ26 mJ26_add.1 1 := entV_V (M := mJ26_add) q2628 q1759 q1760 q1761 ⟨by decide +kernel, by decide +kernel⟩ (by decide +kernel)
theorem cs_X21_16 : EntS g RX21 (.invokestatic 16) 3 mJ19_max.1 2 := entS_S (M := mJ19_max) q2171 q455 q143 q456 ⟨by decide +kernel, by decide +kernel⟩ (by decide +kernel)
theorem cv_X3_107_X3 : EntV g RX3 (.invokevirtual 107) 3 RX3 mX3_begins.1 2 := entV_V (M := mX3_begins) q2707 q2709 qs52 q2710 ⟨by decide +kernel, by decide +kernel⟩ (by decide +kernel)
theorem cs_X3_121 : EntS g RX3 (.invokestatic 121) 3 mX3_in.1 3 := entS_S (M := mX3_in) q2879 q2880 q129 q2881 ⟨by decide +kernel, by decide +kernel⟩ (by decide +kernel)
theorem cv_X3_117_X3 : EntV g RX3 (.invokevirtual 117) 3 RX3 mX3_fails.1 1 := entV_V (M := mX3_fails) q2882 q2884 qs53 q2885 ⟨by decide +kernel, by decide +kernel⟩ (by decide +kernel)
theorem cs_X3_214 : EntS g RX3 (.invokestatic 214) 3 mX3_isDancer.1 1 := entS_S (M := mX3_isDancer) q2890 q2891 q129 q2892 ⟨by decide +kernel, by decide +kernel⟩ (by decide +kernel)
theorem cv_X3_218_X3 : EntV g RX3 (.invokevirtual 218) 3 RX3 mX3_isPlace.1 1 := entV_V (M := mX3_isPlace) q2893 q2895 qs54 q2896 ⟨by decide +kernel, by decide +kernel⟩ (by decide +kernel)
theorem cv_X3_221_X3 : EntV g RX3 (.invokevirtual 221) 3 RX3 mX3_sets.1 3 := entV_V (M := mX3_sets) q2897 q2899 qs55 q2900 ⟨by decide +kernel, by decide +kernel⟩ (by decide +kernel)
theorem cv_X3_205_X3 : EntV g RX3 (.invokevirtual 205) 3 RX3 mX3_isTaken.1 3 := entV_V (M := mX3_isTaken) q2901 q2903 qs56 q2904 ⟨by decide +kernel, by decide +kernel⟩ (by decide +kernel)
theorem cv_X3_208_X3 : EntV g RX3 (.invokevirtual 208) 3 RX3 mX3_frames.1 0 := entV_V (M := mX3_frames) q2905 q2907 qs57 q2908 ⟨by decide +kernel, by decide +kernel⟩ (by decide +kernel)
theorem cv_X3_211_X3 : EntV g RX3 (.invokevirtual 211) 3 RX3 mX3_keeps.1 0 := entV_V (M := mX3_keeps) q2909 q2911 qs58 q2912 ⟨by decide +kernel, by decide +kernel⟩ (by decide +kernel)
theorem cv_X3_279_X3 : EntV g RX3 (.invokevirtual 279) 3 RX3 mX3_isText.1 0 := entV_V (M := mX3_isText) q2922 q2924 qs59 q2925 ⟨by decide +kernel, by decide +kernel⟩ (by decide +kernel)
theorem cv_X3_263_X3 : EntV g RX3 (.invokevirtual 263) 3 RX3 mX3_beginsSeries.1 0 := entV_V (M := mX3_beginsSeries) q2926 q2928 qs60 q2929 ⟨by decide +kernel, by decide +kernel⟩ (by decide +kernel)
theorem cv_X3_241_X3 : EntV g RX3 (.invokevirtual 241) 3 RX3 mX3_appends.1 3 := entV_V (M := mX3_appends) q2930 q2932 qs61 q2933 ⟨by decide +kernel, by decide +kernel⟩ (by decide +kernel)
theorem cv_X3_137_X3 : EntV g RX3 (.invokevirtual 137) 3 RX3 mX3_put.1 3 := entV_V (M := mX3_put) q2934 q2936 qs62 q2937 ⟨by decide +kernel, by decide +kernel⟩ (by decide +kernel)
theorem cv_X3_244_X3 : EntV g RX3 (.invokevirtual 244) 3 RX3 mX3_beginsLayer.1 0 := entV_V (M := mX3_beginsLayer) q2938 q2940 qs63 q2941 ⟨by decide +kernel, by decide +kernel⟩ (by decide +kernel)
theorem cv_X3_133_X3 : EntV g RX3 (.invokevirtual 133) 3 RX3 mX3_of.1 2 := entV_V (M := mX3_of) q2942 q2944 qs64 q2945 ⟨by decide +kernel, by decide +kernel⟩ (by decide +kernel)
theorem cv_X3_272_X3 : EntV g RX3 (.invokevirtual 272) 3 RX3 mX3_begun.1 0 := entV_V (M := mX3_begun) q2946 q2948 qs65 q2949 ⟨by decide +kernel, by decide +kernel⟩ (by decide +kernel)
theorem cv_X3_234_X3 : EntV g RX3 (.invokevirtual 234) 3 RX3 mX3_here.1 0 := entV_V (M := mX3_here) q2950 q2952 qs66 q2953 ⟨by decide +kernel, by decide +kernel⟩ (by decide +kernel)
theorem cv_X3_251_X3 : EntV g RX3 (.invokevirtual 251) 3 RX3 mX3_next.1 0 := entV_V (M := mX3_next) q2954 q2956 qs67 q2957 ⟨by decide +kernel, by decide +kernel⟩ (by decide +kernel)
theorem cv_X3_247_X3 : EntV g RX3 (.invokevirtual 247) 3 RX3 mX3_isHere.1 2 := entV_V (M := mX3_isHere) q2958 q2960 qs68 q2961 ⟨by decide +kernel, by decide +kernel⟩ (by decide +kernel)
theorem cv_X3_266_X3 : EntV g RX3 (.invokevirtual 266) 3 RX3 mX3_phrase.1 2 := entV_V (M := mX3_phrase) q2962 q2964 qs69 q2965 ⟨by decide +kernel, by decide +kernel⟩ (by decide +kernel)
theorem cv_X3_254_X3 : EntV g RX3 (.invokevirtual 254) 3 RX3 mX3_addsDancer.1 1 := entV_V (M := mX3_addsDancer) q2966 q2968 qs70 q2969 ⟨by decide +kernel, by decide +kernel⟩ (by decide +kernel)
theorem cs_X3_257 : EntS g RX3 (.invokestatic 257) 3 mX3_stepOf.1 1 := entS_S (M := mX3_stepOf) q2970 q2971 q129 q2972 ⟨by decide +kernel, by decide +kernel⟩ (by decide +kernel)
theorem cv_X3_260_X3 : EntV g RX3 (.invokevirtual 260) 3 RX3 mX3_addsStep.1 1 := entV_V (M := mX3_addsStep) q2973 q2975 qs71 q2976 ⟨by decide +kernel, by decide +kernel⟩ (by decide +kernel)
theorem cv_X3_269_X3 : EntV g RX3 (.invokevirtual 269) 3 RX3 mX3_opensSeries.1 0 := entV_V (M := mX3_opensSeries) q2977 q2979 qs72 q2980 ⟨by decide +kernel, by decide +kernel⟩ (by decide +kernel)
theorem cv_X3_276_X3 : EntV g RX3 (.invokevirtual 276) 3 RX3 mX3_follows.1 0 := entV_V (M := mX3_follows) q2981 q2983 qs73 q2984 ⟨by decide +kernel, by decide +kernel⟩ (by decide +kernel)
theorem cv_X3_282_X3 : EntV g RX3 (.invokevirtual 282) 3 RX3 mX3_backs.1 0 := entV_V (M := mX3_backs) q2985 q2987 qs74 q2988 ⟨by decide +kernel, by decide +kernel⟩ (by decide +kernel)
theorem cv_X3_285_X3 : EntV g RX3 (.invokevirtual 285) 3 RX3 mX3_tidies.1 0 := entV_V (M := mX3_tidies) q2989 q2991 qs75 q2992 ⟨by decide +kernel, by decide +kernel⟩ (by decide +kernel)
theorem cv_X3_162_X3 : EntV g RX3 (.invokevirtual 162) 3 RX3 mX3_kind.1 1 := entV_V (M := mX3_kind) q2993 q2995 qs76 q2996 ⟨by decide +kernel, by decide +kernel⟩ (by decide +kernel)
theorem cv_X3_199_X3 : EntV g RX3 (.invokevirtual 199) 3 RX3 mX3_means.1 0 := entV_V (M := mX3_means) q2997 q2999 qs77 q3000 ⟨by decide +kernel, by decide +kernel⟩ (by decide +kernel)
theorem cv_X3_183_X3 : EntV g RX3 (.invokevirtual 183) 3 RX3 mX3_leaf.1 1 := entV_V (M := mX3_leaf) q3001 q3003 qs78 q3004 ⟨by decide +kernel, by decide +kernel⟩ (by decide +kernel)
theorem cv_X3_159_X3 : EntV g RX3 (.invokevirtual 159) 3 RX3 mX3_empties.1 0 := entV_V (M := mX3_empties) q3005 q3007 qs79 q3008 ⟨by decide +kernel, by decide +kernel⟩ (by decide +kernel)
theorem cv_X3_165_X3 : EntV g RX3 (.invokevirtual 165) 3 RX3 mX3_data.1 1 := entV_V (M := mX3_data) q3009 q3011 qs80 q3012 ⟨by decide +kernel, by decide +kernel⟩ (by decide +kernel)
theorem cs_X3_168 : EntS g RX3 (.invokestatic 168) 3 mX3_lowest.1 1 := entS_S (M := mX3_lowest) q3013 q3014 q129 q3015 ⟨by decide +kernel, by decide +kernel⟩ (by decide +kernel)
theorem cv_X3_171_X3 : EntV g RX3 (.invokevirtual 171) 3 RX3 mX3_refuses.1 2 := entV_V (M := mX3_refuses) q3016 q3018 qs81 q3019 ⟨by decide +kernel, by decide +kernel⟩ (by decide +kernel)
theorem cv_X3_187_X3 : EntV g RX3 (.invokevirtual 187) 3 RX3 mX3_ends.1 0 := entV_V (M := mX3_ends) q3020 q3022 qs82 q3023 ⟨by decide +kernel, by decide +kernel⟩ (by decide +kernel)
theorem cv_X3_193_X3 : EntV g RX3 (.invokevirtual 193) 3 RX3 mX3_merges.1 0 := entV_V (M := mX3_merges) q3024 q3026 qs83 q3027 ⟨by decide +kernel, by decide +kernel⟩ (by decide +kernel)
theorem cv_X3_196_X3 : EntV g RX3 (.invokevirtual 196) 3 RX3 mX3_closes.1 0 := entV_V (M := mX3_closes) q3028 q3030 qs84 q3031 ⟨by decide +kernel, by decide +kernel⟩ (by decide +kernel)
theorem cv_X3_177_X3 : EntV g RX3 (.invokevirtual 177) 3 RX3 mX3_copies.1 2 := entV_V (M := mX3_copies) q3032 q3034 qs85 q3035 ⟨by decide +kernel, by decide +kernel⟩ (by decide +kernel)
theorem cs_X3_180 : EntS g RX3 (.invokestatic 180) 3 mX3_opposite.1 1 := entS_S (M := mX3_opposite) q3036 q3037 q129 q3038 ⟨by decide +kernel, by decide +kernel⟩ (by decide +kernel)
theorem cv_X3_190_X3 : EntV g RX3 (.invokevirtual 190) 3 RX3 mX3_opens.1 1 := entV_V (M := mX3_opens) q3039 q3041 qs86 q3042 ⟨by decide +kernel, by decide +kernel⟩ (by decide +kernel)
theorem cv_X3_305_X3 : EntV g RX3 (.invokevirtual 305) 3 RX3 mX3_hasNoPiece.1 1 := entV_V (M := mX3_hasNoPiece) q3055 q3057 qs87 q3058 ⟨by decide +kernel, by decide +kernel⟩ (by decide +kernel)
theorem cv_X3_202_X3 : EntV g RX3 (.invokevirtual 202) 3 RX3 mX3_stops.1 2 := entV_V (M := mX3_stops) q3059 q3061 qs88 q3062 ⟨by decide +kernel, by decide +kernel⟩ (by decide +kernel)
theorem cv_X3_308_X3 : EntV g RX3 (.invokevirtual 308) 3 RX3 mX3_writesNode.1 1 := entV_V (M := mX3_writesNode) q3063 q3065 qs89 q3066 ⟨by decide +kernel, by decide +kernel⟩ (by decide +kernel)
theorem cv_X3_291_X3 : EntV g RX3 (.invokevirtual 291) 3 RX3 mX3_writes.1 1 := entV_V (M := mX3_writes) q3067 q3069 qs90 q3070 ⟨by decide +kernel, by decide +kernel⟩ (by decide +kernel)
theorem cs_X3_298 : EntS g RX3 (.invokestatic 298) 3 mX3_isInside.1 2 := entS_S (M := mX3_isInside) q3071 q3072 q129 q3073 ⟨by decide +kernel, by decide +kernel⟩ (by decide +kernel)
theorem cv_X3_302_X3 : EntV g RX3 (.invokevirtual 302) 3 RX3 mX3_writesLeaf.1 1 := entV_V (M := mX3_writesLeaf) q3074 q3076 qs91 q3077 ⟨by decide +kernel, by decide +kernel⟩ (by decide +kernel)
theorem cs_X3_294 : EntS g RX3 (.invokestatic 294) 3 mX3_signOf.1 1 := entS_S (M := mX3_signOf) q3078 q3079 q129 q3080 ⟨by decide +kernel, by decide +kernel⟩ (by decide +kernel)
theorem cv_X3_311_X3 : EntV g RX3 (.invokevirtual 311) 3 RX3 mX3_writesEnds.1 0 := entV_V (M := mX3_writesEnds) q3081 q3083 qs92 q3084 ⟨by decide +kernel, by decide +kernel⟩ (by decide +kernel)
theorem cv_X3_320_X3 : EntV g RX3 (.invokevirtual 320) 3 RX3 mX3_turned.1 1 := entV_V (M := mX3_turned) q3093 q3095 qs93 q3096 ⟨by decide +kernel, by decide +kernel⟩ (by decide +kernel)
theorem cv_X3_314_X3 : EntV g RX3 (.invokevirtual 314) 3 RX3 mX3_dropsFirst.1 0 := entV_V (M := mX3_dropsFirst) q3097 q3099 qs94 q3100 ⟨by decide +kernel, by decide +kernel⟩ (by decide +kernel)
theorem cv_X3_317_X3 : EntV g RX3 (.invokevirtual 317) 3 RX3 mX3_inserts.1 3 := entV_V (M := mX3_inserts) q3101 q3103 qs95 q3104 ⟨by decide +kernel, by decide +kernel⟩ (by decide +kernel)
theorem cv_X3_323_X3 : EntV g RX3 (.invokevirtual 323) 3 RX3 mX3_leaves.1 0 := entV_V (M := mX3_leaves) q3121 q3123 qs96 q3124 ⟨by decide +kernel, by decide +kernel⟩ (by decide +kernel)
theorem cv_X3_336_X3 : EntV g RX3 (.invokevirtual 336) 3 RX3 mX3_takesPart.1 1 := entV_V (M := mX3_takesPart) q3133 q3135 qs97 q3136 ⟨by decide +kernel, by decide +kernel⟩ (by decide +kernel)
theorem cv_X3_339_X3 : EntV g RX3 (.invokevirtual 339) 3 RX3 mX3_row.1 2 := entV_V (M := mX3_row) q3137 q3139 qs98 q3140 ⟨by decide +kernel, by decide +kernel⟩ (by decide +kernel)
theorem cv_X3_332_X3 : EntV g RX3 (.invokevirtual 332) 3 RX3 mX3_moved.1 3 := entV_V (M := mX3_moved) q3141 q3143 qs99 q3144 ⟨by decide +kernel, by decide +kernel⟩ (by decide +kernel)
theorem cs_X3_326 : EntS g RX3 (.invokestatic 326) 3 mX3_along.1 1 := entS_S (M := mX3_along) q3145 q3146 q129 q3147 ⟨by decide +kernel, by decide +kernel⟩ (by decide +kernel)
theorem cs_X3_329 : EntS g RX3 (.invokestatic 329) 3 mX3_across.1 1 := entS_S (M := mX3_across) q3148 q3149 q129 q3150 ⟨by decide +kernel, by decide +kernel⟩ (by decide +kernel)
theorem cv_X3_342_X3 : EntV g RX3 (.invokevirtual 342) 3 RX3 mX3_column.1 2 := entV_V (M := mX3_column) q3151 q3153 qs100 q3154 ⟨by decide +kernel, by decide +kernel⟩ (by decide +kernel)
theorem cv_X3_373_X3 : EntV g RX3 (.invokevirtual 373) 3 RX3 mX3_searches.1 2 := entV_V (M := mX3_searches) q3159 q3161 qs101 q3162 ⟨by decide +kernel, by decide +kernel⟩ (by decide +kernel)
theorem cv_X3_349_X3 : EntV g RX3 (.invokevirtual 349) 3 RX3 mX3_places.1 0 := entV_V (M := mX3_places) q3163 q3165 qs102 q3166 ⟨by decide +kernel, by decide +kernel⟩ (by decide +kernel)
theorem cv_X3_355_X3 : EntV g RX3 (.invokevirtual 355) 3 RX3 mX3_looks.1 3 := entV_V (M := mX3_looks) q3167 q3169 qs103 q3170 ⟨by decide +kernel, by decide +kernel⟩ (by decide +kernel)
theorem cv_X3_358_X3 : EntV g RX3 (.invokevirtual 358) 3 RX3 mX3_isProblem.1 4 := entV_V (M := mX3_isProblem) q3171 q3173 qs104 q3174 ⟨by decide +kernel, by decide +kernel⟩ (by decide +kernel)
theorem cv_X3_345_X3 : EntV g RX3 (.invokevirtual 345) 3 RX3 mX3_areSame.1 4 := entV_V (M := mX3_areSame) q3175 q3177 qs105 q3178 ⟨by decide +kernel, by decide +kernel⟩ (by decide +kernel)
theorem cv_X3_376_X3 : EntV g RX3 (.invokevirtual 376) 3 RX3 mX3_movingSteps.1 1 := entV_V (M := mX3_movingSteps) q3195 q3197 qs106 q3198 ⟨by decide +kernel, by decide +kernel⟩ (by decide +kernel)
theorem cv_X3_382_X3 : EntV g RX3 (.invokevirtual 382) 3 RX3 mX3_isIn.1 2 := entV_V (M := mX3_isIn) q3211 q3213 qs107 q3214 ⟨by decide +kernel, by decide +kernel⟩ (by decide +kernel)
theorem cv_X3_379_X3 : EntV g RX3 (.invokevirtual 379) 3 RX3 mX3_formed.1 2 := entV_V (M := mX3_formed) q3215 q3217 qs108 q3218 ⟨by decide +kernel, by decide +kernel⟩ (by decide +kernel)
theorem cs_X3_385 : EntS g RX3 (.invokestatic 385) 3 mX3_amount.1 1 := entS_S (M := mX3_amount) q3219 q3220 q129 q3221 ⟨by decide +kernel, by decide +kernel⟩ (by decide +kernel)
theorem cv_X3_407_X3 : EntV g RX3 (.invokevirtual 407) 3 RX3 mX3_finds.1 2 := entV_V (M := mX3_finds) q3226 q3228 qs109 q3229 ⟨by decide +kernel, by decide +kernel⟩ (by decide +kernel)
theorem cv_X3_388_X3 : EntV g RX3 (.invokevirtual 388) 3 RX3 mX3_endOf.1 1 := entV_V (M := mX3_endOf) q3230 q3232 qs110 q3233 ⟨by decide +kernel, by decide +kernel⟩ (by decide +kernel)
theorem cv_X3_394_X3 : EntV g RX3 (.invokevirtual 394) 3 RX3 mX3_stepped.1 2 := entV_V (M := mX3_stepped) q3234 q3236 qs111 q3237 ⟨by decide +kernel, by decide +kernel⟩ (by decide +kernel)
theorem cv_X3_397_X3 : EntV g RX3 (.invokevirtual 397) 3 RX3 mX3_canStep.1 5 := entV_V (M := mX3_canStep) q3238 q3240 qs112 q3241 ⟨by decide +kernel, by decide +kernel⟩ (by decide +kernel)
theorem cv_X3_391_X3 : EntV g RX3 (.invokevirtual 391) 3 RX3 mX3_isFree.1 4 := entV_V (M := mX3_isFree) q3242 q3244 qs113 q3245 ⟨by decide +kernel, by decide +kernel⟩ (by decide +kernel)
theorem cv_X3_401_X3 : EntV g RX3 (.invokevirtual 401) 3 RX3 mX3_walks.1 3 := entV_V (M := mX3_walks) q3246 q3248 qs114 q3249 ⟨by decide +kernel, by decide +kernel⟩ (by decide +kernel)
theorem cs_X3_404 : EntS g RX3 (.invokestatic 404) 3 mX3_tried.1 1 := entS_S (M := mX3_tried) q3250 q3251 q129 q3252 ⟨by decide +kernel, by decide +kernel⟩ (by decide +kernel)
theorem cv_X3_410_X3 : EntV g RX3 (.invokevirtual 410) 3 RX3 mX3_addsPath.1 1 := entV_V (M := mX3_addsPath) q3253 q3255 qs115 q3256 ⟨by decide +kernel, by decide +kernel⟩ (by decide +kernel)
theorem cv_X3_416_X3 : EntV g RX3 (.invokevirtual 416) 3 RX3 mX3_many.1 0 := entV_V (M := mX3_many) q3273 q3275 qs116 q3276 ⟨by decide +kernel, by decide +kernel⟩ (by decide +kernel)
theorem cv_X4_38_X2 : EntV g RX4 (.invokevirtual 38) 3 RX2 mX2_set.1 1 := entV_V (M := mX2_set) q1099 q1100 q1101 q1102 ⟨by decide +kernel, by decide +kernel⟩ (by decide +kernel)
theorem cv_X6_87_X6 : EntV g RX6 (.invokevirtual 87) 3 RX6 mX6_series.1 0 := entV_V (M := mX6_series) q1611 q1612 q1613 q1614 ⟨by decide +kernel, by decide +kernel⟩ (by decide +kernel)
theorem ci_X6_51 {C : String} : EntV g RX6 (.invokespecial 51) 3 C mJ26_init.1 0 := entV_I (M := mJ26_init) rfl rfl rfl q1616 q1617 q1618 ⟨by decide +kernel, by decide +kernel⟩ (by decide +kernel)
theorem cv_X6_52_X6 : EntV g RX6 (.invokevirtual 52) 3 RX6 mX6_layer.1 0 := entV_V (M := mX6_layer) q1632 q1634 qs15 q1635 ⟨by decide +kernel, by decide +kernel⟩ (by decide +kernel)
theorem cv_X6_69_X6 : EntV g RX6 (.invokevirtual 69) 3 RX6 mX6_repeated.1 0 := entV_V (M := mX6_repeated) q1636 q1638 qs16 q1639 ⟨by decide +kernel, by decide +kernel⟩ (by decide +kernel)
theorem cv_X6_33_X6 : EntV g RX6 (.invokevirtual 33) 3 RX6 mX6_isNext.1 2 := entV_V (M := mX6_isNext) q1640 q1642 qs17 q1643 ⟨by decide +kernel, by decide +kernel⟩ (by decide +kernel)
theorem cv_X6_72_X6 : EntV g RX6 (.invokevirtual 72) 3 RX6 mX6_take.1 2 := entV_V (M := mX6_take) q1675 q1677 qs18 q1678 ⟨by decide +kernel, by decide +kernel⟩ (by decide +kernel)
theorem cv_X6_42_X6 : EntV g RX6 (.invokevirtual 42) 3 RX6 mX6_fault.1 0 := entV_V (M := mX6_fault) q1679 q1681 qs19 q1682 ⟨by decide +kernel, by decide +kernel⟩ (by decide +kernel)
theorem ci_X6_39 {C : String} : EntV g RX6 (.invokespecial 39) 3 C mX7_init.1 1 := entV_I (M := mX7_init) rfl rfl rfl q1692 q1693 q1694 ⟨by decide +kernel, by decide +kernel⟩ (by decide +kernel)
theorem cv_X6_78_X6 : EntV g RX6 (.invokevirtual 78) 3 RX6 mX6_unit.1 0 := entV_V (M := mX6_unit) q1709 q1711 qs20 q1712 ⟨by decide +kernel, by decide +kernel⟩ (by decide +kernel)
theorem cv_X6_60_X6 : EntV g RX6 (.invokevirtual 60) 3 RX6 mX6_takes.1 1 := entV_V (M := mX6_takes) q1713 q1715 qs21 q1716 ⟨by decide +kernel, by decide +kernel⟩ (by decide +kernel)
theorem cv_X6_46_X6 : EntV g RX6 (.invokevirtual 46) 3 RX6 mX6_isNext_2.1 1 := entV_V (M := mX6_isNext_2) q1717 q1719 qs22 q1720 ⟨by decide +kernel, by decide +kernel⟩ (by decide +kernel)
theorem cv_X6_93_X6 : EntV g RX6 (.invokevirtual 93) 3 RX6 mX6_phrase.1 1 := entV_V (M := mX6_phrase) q1734 q1736 qs23 q1737 ⟨by decide +kernel, by decide +kernel⟩ (by decide +kernel)
theorem cs_X6_108 : EntS g RX6 (.invokestatic 108) 3 mJ28_valueOf.1 1 := entS_S (M := mJ28_valueOf) q1738 q1739 q160 q1740 ⟨by decide +kernel, by decide +kernel⟩ (by decide +kernel)
theorem cv_X6_56_J26 : EntV g RX6 (.invokevirtual 56) 3 RJ26 mJ26_add.1 1 := entV_V (M := mJ26_add) q1758 q1759 q1760 q1761 ⟨by decide +kernel, by decide +kernel⟩ (by decide +kernel)
theorem cv_X6_116_J7 : EntV g RX6 (.invokevirtual 116) 3 RJ7 mJ7_indexOf.1 1 := entV_V (M := mJ7_indexOf) q1778 q1779 q1780 q1781 ⟨by decide +kernel, by decide +kernel⟩ (by decide +kernel)
theorem cv_X6_122_J26 : EntV g RX6 (.invokevirtual 122) 3 RJ26 mJ26_size.1 0 := entV_V (M := mJ26_size) q1824 q788 q3292 q789 ⟨by decide +kernel, by decide +kernel⟩ (by decide +kernel)
theorem cv_X6_125_J26 : EntV g RX6 (.invokevirtual 125) 3 RJ26 mJ26_get.1 1 := entV_V (M := mJ26_get) q1825 q895 q896 q897 ⟨by decide +kernel, by decide +kernel⟩ (by decide +kernel)
theorem cv_X6_129_J28 : EntV g RX6 (.invokevirtual 129) 3 RJ28 mJ28_intValue.1 0 := entV_V (M := mJ28_intValue) q1827 q1828 q1829 q1830 ⟨by decide +kernel, by decide +kernel⟩ (by decide +kernel)
theorem ci_X6_142 {C : String} : EntV g RX6 (.invokespecial 142) 3 C mX13_init.1 3 := entV_I (M := mX13_init) rfl rfl rfl q1897 q1898 q1899 ⟨by decide +kernel, by decide +kernel⟩ (by decide +kernel)
theorem cv_X6_99_X6 : EntV g RX6 (.invokevirtual 99) 3 RX6 mX6_enclosed.1 0 := entV_V (M := mX6_enclosed) q1913 q1915 qs27 q1916 ⟨by decide +kernel, by decide +kernel⟩ (by decide +kernel)
theorem ci_X6_102 {C : String} : EntV g RX6 (.invokespecial 102) 3 C mX14_init.1 1 := entV_I (M := mX14_init) rfl rfl rfl q1917 q1918 q1919 ⟨by decide +kernel, by decide +kernel⟩ (by decide +kernel)
theorem ci_X6_107 {C : String} : EntV g RX6 (.invokespecial 107) 3 C mX15_init.1 1 := entV_I (M := mX15_init) rfl rfl rfl q1938 q1939 q1940 ⟨by decide +kernel, by decide +kernel⟩ (by decide +kernel)
theorem ci_X6_81 {C : String} : EntV g RX6 (.invokespecial 81) 3 C mX10_init.1 2 := entV_I (M := mX10_init) rfl rfl rfl q1944 q1945 q1946 ⟨by decide +kernel, by decide +kernel⟩ (by decide +kernel)
theorem cs_X6_63 : EntS g RX6 (.invokestatic 63) 3 mX16_of.1 2 := entS_S (M := mX16_of) q1952 q1953 q166 q1954 ⟨by decide +kernel, by decide +kernel⟩ (by decide +kernel)
theorem ci_X7_1 {C : String} : EntV g RX7 (.invokespecial 1) 3 C mJ10_init_4.1 4 := entV_I (M := mJ10_init_4) rfl rfl rfl q1695 q1696 q1697 ⟨by decide +kernel, by decide +kernel⟩ (by decide +kernel)
theorem cv_X8_24_X10 : EntV g RX8 (.invokevirtual 24) 3 RX10 mX10_length.1 0 := entV_U (M := mX10_length) (x := ⟨"DanceNotation$Node", "length", "()I"⟩) (owner := "DanceNotation$Node") q1115 q1117 (decl_d q1116) ⟨by decide +kernel, by decide +kernel⟩ q1137 q1128 (by decide +kernel)
theorem cv_X8_24_X12 : EntV g RX8 (.invokevirtual 24) 3 RX12 mX12_length.1 0 := entV_U (M := mX12_length) (x := ⟨"DanceNotation$Node", "length", "()I"⟩) (owner := "DanceNotation$Node") q1115 q1117 (decl_d q1116) ⟨by decide +kernel, by decide +kernel⟩ q1118 q1119 (by decide +kernel)
theorem cv_X8_24_X13 : EntV g RX8 (.invokevirtual 24) 3 RX13 mX13_length.1 0 := entV_U (M := mX13_length) (x := ⟨"DanceNotation$Node", "length", "()I"⟩) (owner := "DanceNotation$Node") q1115 q1117 (decl_d q1116) ⟨by decide +kernel, by decide +kernel⟩ q1136 q1125 (by decide +kernel)
theorem cv_X8_24_X14 : EntV g RX8 (.invokevirtual 24) 3 RX14 mX9_length.1 0 := entV_U (M := mX9_length) (x := ⟨"DanceNotation$Node", "length", "()I"⟩) (owner := "DanceNotation$Node") q1115 q1117 (decl_d q1116) ⟨by decide +kernel, by decide +kernel⟩ q1121 q1122 (by decide +kernel)
theorem cv_X8_24_X15 : EntV g RX8 (.invokevirtual 24) 3 RX15 mX9_length.1 0 := entV_U (M := mX9_length) (x := ⟨"DanceNotation$Node", "length", "()I"⟩) (owner := "DanceNotation$Node") q1115 q1117 (decl_d q1116) ⟨by decide +kernel, by decide +kernel⟩ q1138 q1122 (by decide +kernel)
theorem cv_X8_24_X16 : EntV g RX8 (.invokevirtual 24) 3 RX16 mX16_length.1 0 := entV_U (M := mX16_length) (x := ⟨"DanceNotation$Node", "length", "()I"⟩) (owner := "DanceNotation$Node") q1115 q1117 (decl_d q1116) ⟨by decide +kernel, by decide +kernel⟩ q1139 q1132 (by decide +kernel)
theorem ci_X8_27 {C : String} : EntV g RX8 (.invokespecial 27) 3 C mX5_init.1 1 := entV_I (M := mX5_init) rfl rfl rfl q1140 q1141 q1142 ⟨by decide +kernel, by decide +kernel⟩ (by decide +kernel)
theorem cv_X8_30_X10 : EntV g RX8 (.invokevirtual 30) 3 RX10 mX10_perform.1 4 := entV_U (M := mX10_perform) (x := ⟨"DanceNotation$Node", "perform", "(LDanceNotation$Score;IIZ)V"⟩) (owner := "DanceNotation$Node") q1186 q1188 (decl_d q1187) ⟨by decide +kernel, by decide +kernel⟩ q1237 q1225 (by decide +kernel)
theorem cv_X8_30_X12 : EntV g RX8 (.invokevirtual 30) 3 RX12 mX12_perform.1 4 := entV_U (M := mX12_perform) (x := ⟨"DanceNotation$Node", "perform", "(LDanceNotation$Score;IIZ)V"⟩) (owner := "DanceNotation$Node") q1186 q1188 (decl_d q1187) ⟨by decide +kernel, by decide +kernel⟩ q1189 q1190 (by decide +kernel)
theorem cv_X8_30_X13 : EntV g RX8 (.invokevirtual 30) 3 RX13 mX13_perform.1 4 := entV_U (M := mX13_perform) (x := ⟨"DanceNotation$Node", "perform", "(LDanceNotation$Score;IIZ)V"⟩) (owner := "DanceNotation$Node") q1186 q1188 (decl_d q1187) ⟨by decide +kernel, by decide +kernel⟩ q1236 q1196 (by decide +kernel)
theorem cv_X8_30_X14 : EntV g RX8 (.invokevirtual 30) 3 RX14 mX14_perform.1 4 := entV_U (M := mX14_perform) (x := ⟨"DanceNotation$Node", "perform", "(LDanceNotation$Score;IIZ)V"⟩) (owner := "DanceNotation$Node") q1186 q1188 (decl_d q1187) ⟨by decide +kernel, by decide +kernel⟩ q1192 q1193 (by decide +kernel)
theorem cv_X8_30_X15 : EntV g RX8 (.invokevirtual 30) 3 RX15 mX15_perform.1 4 := entV_U (M := mX15_perform) (x := ⟨"DanceNotation$Node", "perform", "(LDanceNotation$Score;IIZ)V"⟩) (owner := "DanceNotation$Node") q1186 q1188 (decl_d q1187) ⟨by decide +kernel, by decide +kernel⟩ q1238 q1229 (by decide +kernel)
theorem cv_X8_30_X16 : EntV g RX8 (.invokevirtual 30) 3 RX16 mX16_perform.1 4 := entV_U (M := mX16_perform) (x := ⟨"DanceNotation$Node", "perform", "(LDanceNotation$Score;IIZ)V"⟩) (owner := "DanceNotation$Node") q1186 q1188 (decl_d q1187) ⟨by decide +kernel, by decide +kernel⟩ q1239 q1232 (by decide +kernel)
theorem cv_X8_49_J6 : EntV g RX8 (.invokevirtual 49) 3 RJ6 mJ6_append.1 1 := entV_V (M := mJ6_append) q1271 q433 q434 q435 ⟨by decide +kernel, by decide +kernel⟩ (by decide +kernel)
theorem cv_X8_55_X10 : EntV g RX8 (.invokevirtual 55) 3 RX10 mX10_write.1 1 := entV_U (M := mX10_write) (x := ⟨"DanceNotation$Node", "write", "(Ljava/lang/StringBuilder;)V"⟩) (owner := "DanceNotation$Node") q1272 q1252 (decl_d q1251) ⟨by decide +kernel, by decide +kernel⟩ q1319 q1292 (by decide +kernel)
theorem cv_X8_55_X12 : EntV g RX8 (.invokevirtual 55) 3 RX12 mX12_write.1 1 := entV_U (M := mX12_write) (x := ⟨"DanceNotation$Node", "write", "(Ljava/lang/StringBuilder;)V"⟩) (owner := "DanceNotation$Node") q1272 q1252 (decl_d q1251) ⟨by decide +kernel, by decide +kernel⟩ q1253 q1254 (by decide +kernel)
theorem cv_X8_55_X13 : EntV g RX8 (.invokevirtual 55) 3 RX13 mX13_write.1 1 := entV_U (M := mX13_write) (x := ⟨"DanceNotation$Node", "write", "(Ljava/lang/StringBuilder;)V"⟩) (owner := "DanceNotation$Node") q1272 q1252 (decl_d q1251) ⟨by decide +kernel, by decide +kernel⟩ q1318 q1273 (by decide +kernel)
theorem cv_X8_55_X14 : EntV g RX8 (.invokevirtual 55) 3 RX14 mX14_write.1 1 := entV_U (M := mX14_write) (x := ⟨"DanceNotation$Node", "write", "(Ljava/lang/StringBuilder;)V"⟩) (owner := "DanceNotation$Node") q1272 q1252 (decl_d q1251) ⟨by decide +kernel, by decide +kernel⟩ q1258 q1259 (by decide +kernel)
theorem cv_X8_55_X15 : EntV g RX8 (.invokevirtual 55) 3 RX15 mX15_write.1 1 := entV_U (M := mX15_write) (x := ⟨"DanceNotation$Node", "write", "(Ljava/lang/StringBuilder;)V"⟩) (owner := "DanceNotation$Node") q1272 q1252 (decl_d q1251) ⟨by decide +kernel, by decide +kernel⟩ q1320 q1300 (by decide +kernel)
theorem cv_X8_55_X16 : EntV g RX8 (.invokevirtual 55) 3 RX16 mX16_write.1 1 := entV_U (M := mX16_write) (x := ⟨"DanceNotation$Node", "write", "(Ljava/lang/StringBuilder;)V"⟩) (owner := "DanceNotation$Node") q1272 q1252 (decl_d q1251) ⟨by decide +kernel, by decide +kernel⟩ q1321 q1307 (by decide +kernel)
theorem cv_X8_39_X10 : EntV g RX8 (.invokevirtual 39) 3 RX10 mX8_checkAll.1 0 := entV_V (M := mX8_checkAll) q1978 q1969 q1974 q1977 ⟨by decide +kernel, by decide +kernel⟩ (by decide +kernel)
theorem cv_X8_39_X12 : EntV g RX8 (.invokevirtual 39) 3 RX12 mX8_checkAll.1 0 := entV_V (M := mX8_checkAll) q1978 q1969 q1971 q1977 ⟨by decide +kernel, by decide +kernel⟩ (by decide +kernel)
theorem cv_X8_39_X13 : EntV g RX8 (.invokevirtual 39) 3 RX13 mX8_checkAll.1 0 := entV_V (M := mX8_checkAll) q1978 q1969 q1973 q1977 ⟨by decide +kernel, by decide +kernel⟩ (by decide +kernel)
theorem cv_X8_39_X14 : EntV g RX8 (.invokevirtual 39) 3 RX14 mX8_checkAll.1 0 := entV_V (M := mX8_checkAll) q1978 q1969 q1972 q1977 ⟨by decide +kernel, by decide +kernel⟩ (by decide +kernel)
theorem cv_X8_39_X15 : EntV g RX8 (.invokevirtual 39) 3 RX15 mX8_checkAll.1 0 := entV_V (M := mX8_checkAll) q1978 q1969 q1975 q1977 ⟨by decide +kernel, by decide +kernel⟩ (by decide +kernel)
theorem cv_X8_39_X16 : EntV g RX8 (.invokevirtual 39) 3 RX16 mX8_checkAll.1 0 := entV_V (M := mX8_checkAll) q1978 q1969 q1976 q1977 ⟨by decide +kernel, by decide +kernel⟩ (by decide +kernel)
theorem cv_X8_42_X10 : EntV g RX8 (.invokevirtual 42) 3 RX10 mX8_check.1 0 := entV_V (M := mX8_check) q1979 q1980 q2039 q2018 ⟨by decide +kernel, by decide +kernel⟩ (by decide +kernel)
theorem cv_X8_42_X12 : EntV g RX8 (.invokevirtual 42) 3 RX12 mX8_check.1 0 := entV_V (M := mX8_check) q1979 q1980 q1982 q2018 ⟨by decide +kernel, by decide +kernel⟩ (by decide +kernel)
theorem cv_X8_42_X13 : EntV g RX8 (.invokevirtual 42) 3 RX13 mX13_check.1 0 := entV_U (M := mX13_check) (x := ⟨"DanceNotation$Node", "check", "()V"⟩) (owner := "DanceNotation$Node") q1979 q1981 (decl_m (M0 := mX8_check) q1980 q2018) ⟨by decide +kernel, by decide +kernel⟩ q1984 q1985 (by decide +kernel)
theorem cv_X8_42_X14 : EntV g RX8 (.invokevirtual 42) 3 RX14 mX8_check.1 0 := entV_V (M := mX8_check) q1979 q1980 q1983 q2018 ⟨by decide +kernel, by decide +kernel⟩ (by decide +kernel)
theorem cv_X8_42_X15 : EntV g RX8 (.invokevirtual 42) 3 RX15 mX8_check.1 0 := entV_V (M := mX8_check) q1979 q1980 q2040 q2018 ⟨by decide +kernel, by decide +kernel⟩ (by decide +kernel)
theorem cv_X8_42_X16 : EntV g RX8 (.invokevirtual 42) 3 RX16 mX16_check.1 0 := entV_U (M := mX16_check) (x := ⟨"DanceNotation$Node", "check", "()V"⟩) (owner := "DanceNotation$Node") q1979 q1981 (decl_m (M0 := mX8_check) q1980 q2018) ⟨by decide +kernel, by decide +kernel⟩ q2041 q2042 (by decide +kernel)
theorem cv_X8_19_X10 : EntV g RX8 (.invokevirtual 19) 3 RX10 mX10_cues.1 0 := entV_U (M := mX10_cues) (x := ⟨"DanceNotation$Node", "cues", "()I"⟩) (owner := "DanceNotation$Node") q2019 q2021 (decl_m (M0 := mX8_cues) q2020 q2034) ⟨by decide +kernel, by decide +kernel⟩ q2027 q2028 (by decide +kernel)
theorem cv_X8_19_X12 : EntV g RX8 (.invokevirtual 19) 3 RX12 mX12_cues.1 0 := entV_U (M := mX12_cues) (x := ⟨"DanceNotation$Node", "cues", "()I"⟩) (owner := "DanceNotation$Node") q2019 q2021 (decl_m (M0 := mX8_cues) q2020 q2034) ⟨by decide +kernel, by decide +kernel⟩ q2022 q2023 (by decide +kernel)
theorem cv_X8_19_X13 : EntV g RX8 (.invokevirtual 19) 3 RX13 mX8_cues.1 0 := entV_V (M := mX8_cues) q2019 q2020 q2026 q2034 ⟨by decide +kernel, by decide +kernel⟩ (by decide +kernel)
theorem cv_X8_19_X14 : EntV g RX8 (.invokevirtual 19) 3 RX14 mX8_cues.1 0 := entV_V (M := mX8_cues) q2019 q2020 q2025 q2034 ⟨by decide +kernel, by decide +kernel⟩ (by decide +kernel)
theorem cv_X8_19_X15 : EntV g RX8 (.invokevirtual 19) 3 RX15 mX8_cues.1 0 := entV_V (M := mX8_cues) q2019 q2020 q2035 q2034 ⟨by decide +kernel, by decide +kernel⟩ (by decide +kernel)
theorem cv_X8_19_X16 : EntV g RX8 (.invokevirtual 19) 3 RX16 mX8_cues.1 0 := entV_V (M := mX8_cues) q2019 q2020 q2036 q2034 ⟨by decide +kernel, by decide +kernel⟩ (by decide +kernel)
theorem ci_X8_36 {C : String} : EntV g RX8 (.invokespecial 36) 3 C mX17_init.1 2 := entV_I (M := mX17_init) rfl rfl rfl q2038 q2001 q2002 ⟨by decide +kernel, by decide +kernel⟩ (by decide +kernel)
theorem ci_X8_63 {C : String} : EntV g RX8 (.invokespecial 63) 3 C mJ3_init.1 0 := entV_I (M := mJ3_init) rfl rfl rfl q2219 q232 q233 ⟨by decide +kernel, by decide +kernel⟩ (by decide +kernel)
theorem cv_X8_64_J3 : EntV g RX8 (.invokevirtual 64) 3 RJ3 mJ3_addFirst.1 1 := entV_V (M := mJ3_addFirst) q2220 q910 q911 q912 ⟨by decide +kernel, by decide +kernel⟩ (by decide +kernel)
theorem ci_X8_70 {C : String} : EntV g RX8 (.invokespecial 70) 3 C mX18_init.1 2 := entV_I (M := mX18_init) rfl rfl rfl q2223 q2224 q2225 ⟨by decide +kernel, by decide +kernel⟩ (by decide +kernel)
theorem cv_X9_13_X10 : EntV g RX9 (.invokevirtual 13) 3 RX10 mX10_length.1 0 := entV_U (M := mX10_length) (x := ⟨"DanceNotation$Node", "length", "()I"⟩) (owner := "DanceNotation$Node") q1124 q1117 (decl_d q1116) ⟨by decide +kernel, by decide +kernel⟩ q1137 q1128 (by decide +kernel)
theorem cv_X9_13_X12 : EntV g RX9 (.invokevirtual 13) 3 RX12 mX12_length.1 0 := entV_U (M := mX12_length) (x := ⟨"DanceNotation$Node", "length", "()I"⟩) (owner := "DanceNotation$Node") q1124 q1117 (decl_d q1116) ⟨by decide +kernel, by decide +kernel⟩ q1118 q1119 (by decide +kernel)
theorem cv_X9_13_X13 : EntV g RX9 (.invokevirtual 13) 3 RX13 mX13_length.1 0 := entV_U (M := mX13_length) (x := ⟨"DanceNotation$Node", "length", "()I"⟩) (owner := "DanceNotation$Node") q1124 q1117 (decl_d q1116) ⟨by decide +kernel, by decide +kernel⟩ q1136 q1125 (by decide +kernel)
theorem cv_X9_13_X14 : EntV g RX9 (.invokevirtual 13) 3 RX14 mX9_length.1 0 := entV_U (M := mX9_length) (x := ⟨"DanceNotation$Node", "length", "()I"⟩) (owner := "DanceNotation$Node") q1124 q1117 (decl_d q1116) ⟨by decide +kernel, by decide +kernel⟩ q1121 q1122 (by decide +kernel)
theorem cv_X9_13_X15 : EntV g RX9 (.invokevirtual 13) 3 RX15 mX9_length.1 0 := entV_U (M := mX9_length) (x := ⟨"DanceNotation$Node", "length", "()I"⟩) (owner := "DanceNotation$Node") q1124 q1117 (decl_d q1116) ⟨by decide +kernel, by decide +kernel⟩ q1138 q1122 (by decide +kernel)
theorem cv_X9_13_X16 : EntV g RX9 (.invokevirtual 13) 3 RX16 mX16_length.1 0 := entV_U (M := mX16_length) (x := ⟨"DanceNotation$Node", "length", "()I"⟩) (owner := "DanceNotation$Node") q1124 q1117 (decl_d q1116) ⟨by decide +kernel, by decide +kernel⟩ q1139 q1132 (by decide +kernel)
theorem ci_X11_1 {C : String} : EntV g RX11 (.invokespecial 1) 3 C mX8_init.1 0 := entV_IN (M := mX8_init) rfl rfl rfl q1729 q1730 q1731 ⟨by decide +kernel, by decide +kernel⟩ (by decide +kernel)
theorem ci_X12_1 {C : String} : EntV g RX12 (.invokespecial 1) 3 C mX11_init.1 0 := entV_IN (M := mX11_init) rfl rfl rfl q1726 q1727 q1728 ⟨by decide +kernel, by decide +kernel⟩ (by decide +kernel)
theorem ci_X13_3 {C : String} : EntV g RX13 (.invokespecial 3) 3 C mX11_init.1 0 := entV_IN (M := mX11_init) rfl rfl rfl q1900 q1727 q1728 ⟨by decide +kernel, by decide +kernel⟩ (by decide +kernel)
theorem cs_X13_66 : EntS g RX13 (.invokestatic 66) 3 mX1_rowsOf.1 1 := entS_SN (M := mX1_rowsOf) q2447 q2310 q118 q2311 ⟨by decide +kernel, by decide +kernel⟩ (by decide +kernel)
theorem cs_X13_70 : EntS g RX13 (.invokestatic 70) 3 mX1_columnsOf.1 1 := entS_SN (M := mX1_columnsOf) q2448 q2313 q118 q2314 ⟨by decide +kernel, by decide +kernel⟩ (by decide +kernel)
theorem ci_X16_3 {C : String} : EntV g RX16 (.invokespecial 3) 3 C mX8_init.1 0 := entV_IN (M := mX8_init) rfl rfl rfl q1959 q1730 q1731 ⟨by decide +kernel, by decide +kernel⟩ (by decide +kernel)
theorem cs_X19_83 : EntS g RX19 (.invokestatic 83) 3 mX1_rowsOf.1 1 := entS_SN (M := mX1_rowsOf) q2361 q2310 q118 q2311 ⟨by decide +kernel, by decide +kernel⟩ (by decide +kernel)
theorem cs_X19_87 : EntS g RX19 (.invokestatic 87) 3 mX1_columnsOf.1 1 := entS_SN (M := mX1_columnsOf) q2362 q2313 q118 q2314 ⟨by decide +kernel, by decide +kernel⟩ (by decide +kernel)
theorem cs_X19_45 : EntS g RX19 (.invokestatic 45) 3 mX1_inRange.1 3 := entS_SN (M := mX1_inRange) q2368 q1410 q118 q1411 ⟨by decide +kernel, by decide +kernel⟩ (by decide +kernel)
theorem cs_X2_75 : EntS g RX2 (.invokestatic 75) 3 mX1_rowsOf.1 1 := entS_SN (M := mX1_rowsOf) q2309 q2310 q118 q2311 ⟨by decide +kernel, by decide +kernel⟩ (by decide +kernel)
theorem cs_X2_79 : EntS g RX2 (.invokestatic 79) 3 mX1_columnsOf.1 1 := entS_SN (M := mX1_columnsOf) q2312 q2313 q118 q2314 ⟨by decide +kernel, by decide +kernel⟩ (by decide +kernel)
theorem ci_X2_84 {C : String} : EntV g RX2 (.invokespecial 84) 3 C mX19_init.1 1 := entV_IN (M := mX19_init) rfl rfl rfl q2328 q2329 q2330 ⟨by decide +kernel, by decide +kernel⟩ (by decide +kernel)
theorem ci_X2_93 {C : String} : EntV g RX2 (.invokespecial 93) 3 C mX20_init.1 1 := entV_IN (M := mX20_init) rfl rfl rfl q2545 q2546 q2547 ⟨by decide +kernel, by decide +kernel⟩ (by decide +kernel)
theorem cs_X20_47 : EntS g RX20 (.invokestatic 47) 3 mX1_rowsOf.1 1 := entS_SN (M := mX1_rowsOf) q2583 q2310 q118 q2311 ⟨by decide +kernel, by decide +kernel⟩ (by decide +kernel)
theorem cs_X20_51 : EntS g RX20 (.invokestatic 51) 3 mX1_columnsOf.1 1 := entS_SN (M := mX1_columnsOf) q2584 q2313 q118 q2314 ⟨by decide +kernel, by decide +kernel⟩ (by decide +kernel)
theorem cs_X20_57 : EntS g RX20 (.invokestatic 57) 3 mX1_inRange.1 3 := entS_SN (M := mX1_inRange) q2585 q1410 q118 q1411 ⟨by decide +kernel, by decide +kernel⟩ (by decide +kernel)
theorem cs_X5_41 : EntS g RX5 (.invokestatic 41) 3 mX1_mirrored.1 1 := entS_SN (M := mX1_mirrored) q1150 q1151 q118 q1152 ⟨by decide +kernel, by decide +kernel⟩ (by decide +kernel)
theorem cs_X5_37 : EntS g RX5 (.invokestatic 37) 3 mX1_opposite.1 1 := entS_SN (M := mX1_opposite) q1155 q1156 q118 q1157 ⟨by decide +kernel, by decide +kernel⟩ (by decide +kernel)
theorem cs_X6_29 : EntS g RX6 (.invokestatic 29) 3 mX1_inRange.1 3 := entS_SN (M := mX1_inRange) q1674 q1410 q118 q1411 ⟨by decide +kernel, by decide +kernel⟩ (by decide +kernel)
theorem ci_X6_92 {C : String} : EntV g RX6 (.invokespecial 92) 3 C mX12_init.1 0 := entV_IN (M := mX12_init) rfl rfl rfl q1723 q1724 q1725 ⟨by decide +kernel, by decide +kernel⟩ (by decide +kernel)
theorem ci_X9_1 {C : String} : EntV g RX9 (.invokespecial 1) 3 C mX8_init.1 0 := entV_IN (M := mX8_init) rfl rfl rfl q1923 q1730 q1731 ⟨by decide +kernel, by decide +kernel⟩ (by decide +kernel)
theorem ce_X0_append : Cee mX0_append := ⟨q1554, q117, by decide⟩
theorem ce_X0_cue : Cee mX0_cue := ⟨q2415, q117, by decide⟩
theorem ce_X0_displacement : Cee mX0_displacement := ⟨q2430, q117, by decide⟩
theorem ce_X0_distance : Cee mX0_distance := ⟨q2520, q117, by decide⟩
theorem ce_X0_errorPosition : Cee mX0_errorPosition := ⟨q2099, q117, by decide⟩
theorem ce_X0_exchange : Cee mX0_exchange := ⟨q2203, q117, by decide⟩
theorem ce_X0_meanSteps : Cee mX0_meanSteps := ⟨q2465, q117, by decide⟩
theorem ce_X0_mirror : Cee mX0_mirror := ⟨q2150, q117, by decide⟩
theorem ce_X0_movingShare : Cee mX0_movingShare := ⟨q2501, q117, by decide⟩
theorem ce_X0_output : Cee mX0_output := ⟨q2142, q117, by decide⟩
theorem ce_X0_place : Cee mX0_place := ⟨q1437, q117, by decide⟩
theorem ce_X0_plan : Cee mX0_plan := ⟨q2530, q117, by decide⟩
theorem ce_X0_position : Cee mX0_position := ⟨q2296, q117, by decide⟩
theorem ce_X0_problem : Cee mX0_problem := ⟨q2405, q117, by decide⟩
theorem ce_X0_problemCount : Cee mX0_problemCount := ⟨q2317, q117, by decide⟩
theorem ce_X0_read : Cee mX0_read := ⟨q1584, q117, by decide⟩
theorem ce_X0_refusedDancer : Cee mX0_refusedDancer := ⟨q2112, q117, by decide⟩
theorem ce_X0_repeat : Cee mX0_repeat := ⟨q2193, q117, by decide⟩
theorem ce_X0_restore : Cee mX0_restore := ⟨q2694, q117, by decide⟩
theorem ce_X0_reverse : Cee mX0_reverse := ⟨q2184, q117, by decide⟩
theorem ce_X0_setFormation : Cee mX0_setFormation := ⟨q2508, q117, by decide⟩
theorem ce_X0_stage : Cee mX0_stage := ⟨q1401, q117, by decide⟩
theorem ce_X0_step : Cee mX0_step := ⟨q2289, q117, by decide⟩
theorem ce_X0_tree : Cee mX0_tree := ⟨q2276, q117, by decide⟩
theorem ce_X0_undo : Cee mX0_undo := ⟨q2664, q117, by decide⟩
theorem ce_X0_write : Cee mX0_write := ⟨q2119, q117, by decide⟩
theorem ce_X1_append : Cee mX1_append := ⟨q1559, q118, by decide⟩
theorem ce_X1_carryOut : Cee mX1_carryOut := ⟨q1495, q118, by decide⟩
theorem ce_X1_checkAllowed : Cee mX1_checkAllowed := ⟨q1565, q118, by decide⟩
theorem ce_X1_checkArgument : Cee mX1_checkArgument := ⟨q1414, q118, by decide⟩
theorem ce_X1_checkDancer : Cee mX1_checkDancer := ⟨q1460, q118, by decide⟩
theorem ce_X1_checkElement : Cee mX1_checkElement := ⟨q2107, q118, by decide⟩
theorem ce_X1_checkFormation : Cee mX1_checkFormation := ⟨q2515, q118, by decide⟩
theorem ce_X1_checkIndex : Cee mX1_checkIndex := ⟨q1464, q118, by decide⟩
theorem ce_X1_checkPiece : Cee mX1_checkPiece := ⟨q2128, q118, by decide⟩
theorem ce_X1_checkPlace : Cee mX1_checkPlace := ⟨q1470, q118, by decide⟩
theorem ce_X1_checkReason : Cee mX1_checkReason := ⟨q2132, q118, by decide⟩
theorem ce_X1_columnsOf : Cee mX1_columnsOf := ⟨q2314, q118, by decide⟩
theorem ce_X1_cue : Cee mX1_cue := ⟨q2419, q118, by decide⟩
theorem ce_X1_displacement : Cee mX1_displacement := ⟨q2434, q118, by decide⟩
theorem ce_X1_distance : Cee mX1_distance := ⟨q2524, q118, by decide⟩
theorem ce_X1_errorPosition : Cee mX1_errorPosition := ⟨q2104, q118, by decide⟩
theorem ce_X1_exchange : Cee mX1_exchange := ⟨q2207, q118, by decide⟩
theorem ce_X1_inRange : Cee mX1_inRange := ⟨q1411, q118, by decide⟩
theorem ce_X1_init : Cee mX1_init := ⟨q181, q118, by decide⟩
theorem ce_X1_isReplayed : Cee mX1_isReplayed := ⟨q354, q118, by decide⟩
theorem ce_X1_isTaken : Cee mX1_isTaken := ⟨q1474, q118, by decide⟩
theorem ce_X1_leafCount : Cee mX1_leafCount := ⟨q2285, q118, by decide⟩
theorem ce_X1_meanSteps : Cee mX1_meanSteps := ⟨q2483, q118, by decide⟩
theorem ce_X1_mirror : Cee mX1_mirror := ⟨q2154, q118, by decide⟩
theorem ce_X1_mirrored : Cee mX1_mirrored := ⟨q1152, q118, by decide⟩
theorem ce_X1_moves : Cee mX1_moves := ⟨q2492, q118, by decide⟩
theorem ce_X1_movingShare : Cee mX1_movingShare := ⟨q2505, q118, by decide⟩
theorem ce_X1_opposite : Cee mX1_opposite := ⟨q1157, q118, by decide⟩
theorem ce_X1_output : Cee mX1_output := ⟨q2146, q118, by decide⟩
theorem ce_X1_place : Cee mX1_place := ⟨q1457, q118, by decide⟩
theorem ce_X1_plan : Cee mX1_plan := ⟨q2534, q118, by decide⟩
theorem ce_X1_position : Cee mX1_position := ⟨q2300, q118, by decide⟩
theorem ce_X1_problem : Cee mX1_problem := ⟨q2409, q118, by decide⟩
theorem ce_X1_problemCount : Cee mX1_problemCount := ⟨q2321, q118, by decide⟩
theorem ce_X1_read : Cee mX1_read := ⟨q1588, q118, by decide⟩
theorem ce_X1_reason : Cee mX1_reason := ⟨q350, q118, by decide⟩
theorem ce_X1_refusedDancer : Cee mX1_refusedDancer := ⟨q2116, q118, by decide⟩
theorem ce_X1_repeat : Cee mX1_repeat := ⟨q2197, q118, by decide⟩
theorem ce_X1_replace : Cee mX1_replace := ⟨q2160, q118, by decide⟩
theorem ce_X1_restore : Cee mX1_restore := ⟨q2698, q118, by decide⟩
theorem ce_X1_reverse : Cee mX1_reverse := ⟨q2188, q118, by decide⟩
theorem ce_X1_rowsOf : Cee mX1_rowsOf := ⟨q2311, q118, by decide⟩
theorem ce_X1_setFormation : Cee mX1_setFormation := ⟨q2512, q118, by decide⟩
theorem ce_X1_setPiece : Cee mX1_setPiece := ⟨q2093, q118, by decide⟩
theorem ce_X1_snapshot : Cee mX1_snapshot := ⟨q1334, q118, by decide⟩
theorem ce_X1_stage : Cee mX1_stage := ⟨q1406, q118, by decide⟩
theorem ce_X1_step : Cee mX1_step := ⟨q2293, q118, by decide⟩
theorem ce_X1_tree : Cee mX1_tree := ⟨q2280, q118, by decide⟩
theorem ce_X1_undo : Cee mX1_undo := ⟨q2668, q118, by decide⟩
theorem ce_X1_write : Cee mX1_write := ⟨q2124, q118, by decide⟩
theorem ce_X2_copy : Cee mX2_copy := ⟨q1338, q119, by decide⟩
theorem ce_X2_init : Cee mX2_init := ⟨q189, q119, by decide⟩
theorem ce_X2_isLike : Cee mX2_isLike := ⟨q1243, q119, by decide⟩
theorem ce_X2_participants : Cee mX2_participants := ⟨q1398, q119, by decide⟩
theorem ce_X2_places : Cee mX2_places := ⟨q1434, q119, by decide⟩
theorem ce_X2_plan : Cee mX2_plan := ⟨q2542, q119, by decide⟩
theorem ce_X2_position : Cee mX2_position := ⟨q2308, q119, by decide⟩
theorem ce_X2_problems : Cee mX2_problems := ⟨q2325, q119, by decide⟩
theorem ce_X2_set : Cee mX2_set := ⟨q1102, q119, by decide⟩
theorem ce_X2_takesPart : Cee mX2_takesPart := ⟨q2304, q119, by decide⟩
theorem ce_X2_text : Cee mX2_text := ⟨q1247, q119, by decide⟩
theorem ce_X2_with : Cee mX2_with := ⟨q2633, q119, by decide⟩
theorem ce_X3_across : Cee mX3_across := ⟨q3150, q129, by decide⟩
theorem ce_X3_addsDancer : Cee mX3_addsDancer := ⟨q2969, q129, by decide⟩
theorem ce_X3_addsPath : Cee mX3_addsPath := ⟨q3256, q129, by decide⟩
theorem ce_X3_addsStep : Cee mX3_addsStep := ⟨q2976, q129, by decide⟩
theorem ce_X3_along : Cee mX3_along := ⟨q3147, q129, by decide⟩
theorem ce_X3_amount : Cee mX3_amount := ⟨q3221, q129, by decide⟩
theorem ce_X3_append : Cee mX3_append := ⟨q2917, q129, by decide⟩
theorem ce_X3_appends : Cee mX3_appends := ⟨q2933, q129, by decide⟩
theorem ce_X3_areSame : Cee mX3_areSame := ⟨q3178, q129, by decide⟩
theorem ce_X3_backs : Cee mX3_backs := ⟨q2988, q129, by decide⟩
theorem ce_X3_begins : Cee mX3_begins := ⟨q2710, q129, by decide⟩
theorem ce_X3_beginsLayer : Cee mX3_beginsLayer := ⟨q2941, q129, by decide⟩
theorem ce_X3_beginsSeries : Cee mX3_beginsSeries := ⟨q2929, q129, by decide⟩
theorem ce_X3_begun : Cee mX3_begun := ⟨q2949, q129, by decide⟩
theorem ce_X3_canStep : Cee mX3_canStep := ⟨q3241, q129, by decide⟩
theorem ce_X3_closes : Cee mX3_closes := ⟨q3031, q129, by decide⟩
theorem ce_X3_column : Cee mX3_column := ⟨q3154, q129, by decide⟩
theorem ce_X3_copies : Cee mX3_copies := ⟨q3035, q129, by decide⟩
theorem ce_X3_cue : Cee mX3_cue := ⟨q3186, q129, by decide⟩
theorem ce_X3_data : Cee mX3_data := ⟨q3012, q129, by decide⟩
theorem ce_X3_displacement : Cee mX3_displacement := ⟨q3190, q129, by decide⟩
theorem ce_X3_distance : Cee mX3_distance := ⟨q3210, q129, by decide⟩
theorem ce_X3_dropsFirst : Cee mX3_dropsFirst := ⟨q3100, q129, by decide⟩
theorem ce_X3_empties : Cee mX3_empties := ⟨q3008, q129, by decide⟩
theorem ce_X3_endOf : Cee mX3_endOf := ⟨q3233, q129, by decide⟩
theorem ce_X3_ends : Cee mX3_ends := ⟨q3023, q129, by decide⟩
theorem ce_X3_errorPosition : Cee mX3_errorPosition := ⟨q3046, q129, by decide⟩
theorem ce_X3_exchange : Cee mX3_exchange := ⟨q3116, q129, by decide⟩
theorem ce_X3_fails : Cee mX3_fails := ⟨q2885, q129, by decide⟩
theorem ce_X3_finds : Cee mX3_finds := ⟨q3229, q129, by decide⟩
theorem ce_X3_follows : Cee mX3_follows := ⟨q2984, q129, by decide⟩
theorem ce_X3_formed : Cee mX3_formed := ⟨q3218, q129, by decide⟩
theorem ce_X3_frames : Cee mX3_frames := ⟨q2908, q129, by decide⟩
theorem ce_X3_hasNoPiece : Cee mX3_hasNoPiece := ⟨q3058, q129, by decide⟩
theorem ce_X3_here : Cee mX3_here := ⟨q2953, q129, by decide⟩
theorem ce_X3_in : Cee mX3_in := ⟨q2881, q129, by decide⟩
theorem ce_X3_init : Cee mX3_init := ⟨q2703, q129, by decide⟩
theorem ce_X3_inserts : Cee mX3_inserts := ⟨q3104, q129, by decide⟩
theorem ce_X3_isDancer : Cee mX3_isDancer := ⟨q2892, q129, by decide⟩
theorem ce_X3_isFree : Cee mX3_isFree := ⟨q3245, q129, by decide⟩
theorem ce_X3_isHere : Cee mX3_isHere := ⟨q2961, q129, by decide⟩
theorem ce_X3_isIn : Cee mX3_isIn := ⟨q3214, q129, by decide⟩
theorem ce_X3_isInside : Cee mX3_isInside := ⟨q3073, q129, by decide⟩
theorem ce_X3_isPlace : Cee mX3_isPlace := ⟨q2896, q129, by decide⟩
theorem ce_X3_isProblem : Cee mX3_isProblem := ⟨q3174, q129, by decide⟩
theorem ce_X3_isReplayed : Cee mX3_isReplayed := ⟨q3268, q129, by decide⟩
theorem ce_X3_isTaken : Cee mX3_isTaken := ⟨q2904, q129, by decide⟩
theorem ce_X3_isText : Cee mX3_isText := ⟨q2925, q129, by decide⟩
theorem ce_X3_keeps : Cee mX3_keeps := ⟨q2912, q129, by decide⟩
theorem ce_X3_kind : Cee mX3_kind := ⟨q2996, q129, by decide⟩
theorem ce_X3_leaf : Cee mX3_leaf := ⟨q3004, q129, by decide⟩
theorem ce_X3_leaves : Cee mX3_leaves := ⟨q3124, q129, by decide⟩
theorem ce_X3_looks : Cee mX3_looks := ⟨q3170, q129, by decide⟩
theorem ce_X3_lowest : Cee mX3_lowest := ⟨q3015, q129, by decide⟩
theorem ce_X3_many : Cee mX3_many := ⟨q3276, q129, by decide⟩
theorem ce_X3_meanSteps : Cee mX3_meanSteps := ⟨q3194, q129, by decide⟩
theorem ce_X3_means : Cee mX3_means := ⟨q3000, q129, by decide⟩
theorem ce_X3_merges : Cee mX3_merges := ⟨q3027, q129, by decide⟩
theorem ce_X3_mirror : Cee mX3_mirror := ⟨q3092, q129, by decide⟩
theorem ce_X3_moved : Cee mX3_moved := ⟨q3144, q129, by decide⟩
theorem ce_X3_movingShare : Cee mX3_movingShare := ⟨q3202, q129, by decide⟩
theorem ce_X3_movingSteps : Cee mX3_movingSteps := ⟨q3198, q129, by decide⟩
theorem ce_X3_next : Cee mX3_next := ⟨q2957, q129, by decide⟩
theorem ce_X3_of : Cee mX3_of := ⟨q2945, q129, by decide⟩
theorem ce_X3_opens : Cee mX3_opens := ⟨q3042, q129, by decide⟩
theorem ce_X3_opensSeries : Cee mX3_opensSeries := ⟨q2980, q129, by decide⟩
theorem ce_X3_opposite : Cee mX3_opposite := ⟨q3038, q129, by decide⟩
theorem ce_X3_output : Cee mX3_output := ⟨q3088, q129, by decide⟩
theorem ce_X3_phrase : Cee mX3_phrase := ⟨q2965, q129, by decide⟩
theorem ce_X3_place : Cee mX3_place := ⟨q2889, q129, by decide⟩
theorem ce_X3_places : Cee mX3_places := ⟨q3166, q129, by decide⟩
theorem ce_X3_plan : Cee mX3_plan := ⟨q3225, q129, by decide⟩
theorem ce_X3_position : Cee mX3_position := ⟨q3132, q129, by decide⟩
theorem ce_X3_problem : Cee mX3_problem := ⟨q3182, q129, by decide⟩
theorem ce_X3_problemCount : Cee mX3_problemCount := ⟨q3158, q129, by decide⟩
theorem ce_X3_put : Cee mX3_put := ⟨q2937, q129, by decide⟩
theorem ce_X3_read : Cee mX3_read := ⟨q2921, q129, by decide⟩
theorem ce_X3_reason : Cee mX3_reason := ⟨q3260, q129, by decide⟩
theorem ce_X3_refusedDancer : Cee mX3_refusedDancer := ⟨q3050, q129, by decide⟩
theorem ce_X3_refuses : Cee mX3_refuses := ⟨q3019, q129, by decide⟩
theorem ce_X3_repeat : Cee mX3_repeat := ⟨q3112, q129, by decide⟩
theorem ce_X3_restore : Cee mX3_restore := ⟨q3280, q129, by decide⟩
theorem ce_X3_reverse : Cee mX3_reverse := ⟨q3108, q129, by decide⟩
theorem ce_X3_row : Cee mX3_row := ⟨q3140, q129, by decide⟩
theorem ce_X3_searches : Cee mX3_searches := ⟨q3162, q129, by decide⟩
theorem ce_X3_setFormation : Cee mX3_setFormation := ⟨q3206, q129, by decide⟩
theorem ce_X3_sets : Cee mX3_sets := ⟨q2900, q129, by decide⟩
theorem ce_X3_signOf : Cee mX3_signOf := ⟨q3080, q129, by decide⟩
theorem ce_X3_snapshot : Cee mX3_snapshot := ⟨q3272, q129, by decide⟩
theorem ce_X3_stage : Cee mX3_stage := ⟨q2878, q129, by decide⟩
theorem ce_X3_step : Cee mX3_step := ⟨q3128, q129, by decide⟩
theorem ce_X3_stepOf : Cee mX3_stepOf := ⟨q2972, q129, by decide⟩
theorem ce_X3_stepped : Cee mX3_stepped := ⟨q3237, q129, by decide⟩
theorem ce_X3_stops : Cee mX3_stops := ⟨q3062, q129, by decide⟩
theorem ce_X3_takesPart : Cee mX3_takesPart := ⟨q3136, q129, by decide⟩
theorem ce_X3_thrown : Cee mX3_thrown := ⟨q2874, q129, by decide⟩
theorem ce_X3_tidies : Cee mX3_tidies := ⟨q2992, q129, by decide⟩
theorem ce_X3_tree : Cee mX3_tree := ⟨q3120, q129, by decide⟩
theorem ce_X3_tried : Cee mX3_tried := ⟨q3252, q129, by decide⟩
theorem ce_X3_turned : Cee mX3_turned := ⟨q3096, q129, by decide⟩
theorem ce_X3_undo : Cee mX3_undo := ⟨q3264, q129, by decide⟩
theorem ce_X3_walks : Cee mX3_walks := ⟨q3249, q129, by decide⟩
theorem ce_X3_write : Cee mX3_write := ⟨q3054, q129, by decide⟩
theorem ce_X3_writes : Cee mX3_writes := ⟨q3070, q129, by decide⟩
theorem ce_X3_writesEnds : Cee mX3_writesEnds := ⟨q3084, q129, by decide⟩
theorem ce_X3_writesLeaf : Cee mX3_writesLeaf := ⟨q3077, q129, by decide⟩
theorem ce_X3_writesNode : Cee mX3_writesNode := ⟨q3066, q129, by decide⟩
theorem ce_X4_carryOut : Cee mX4_carryOut := ⟨q1092, q136, by decide⟩
theorem ce_X4_init : Cee mX4_init := ⟨q1480, q136, by decide⟩
theorem ce_X5_cue : Cee mX5_cue := ⟨q2427, q145, by decide⟩
theorem ce_X5_cueCount : Cee mX5_cueCount := ⟨q2423, q145, by decide⟩
theorem ce_X5_init : Cee mX5_init := ⟨q1142, q145, by decide⟩
theorem ce_X5_lambda_new_0 : Cee mX5_lambda_new_0 := ⟨q1147, q145, by decide⟩
theorem ce_X5_lambda_new_1 : Cee mX5_lambda_new_1 := ⟨q1149, q145, by decide⟩
theorem ce_X5_lambda_new_2 : Cee mX5_lambda_new_2 := ⟨q1154, q145, by decide⟩
theorem ce_X5_lambda_new_3 : Cee mX5_lambda_new_3 := ⟨q1160, q145, by decide⟩
theorem ce_X6_enclosed : Cee mX6_enclosed := ⟨q1916, q151, by decide⟩
theorem ce_X6_fault : Cee mX6_fault := ⟨q1682, q151, by decide⟩
theorem ce_X6_init : Cee mX6_init := ⟨q1595, q151, by decide⟩
theorem ce_X6_isNext : Cee mX6_isNext := ⟨q1643, q151, by decide⟩
theorem ce_X6_isNext_2 : Cee mX6_isNext_2 := ⟨q1720, q151, by decide⟩
theorem ce_X6_layer : Cee mX6_layer := ⟨q1635, q151, by decide⟩
theorem ce_X6_phrase : Cee mX6_phrase := ⟨q1737, q151, by decide⟩
theorem ce_X6_repeated : Cee mX6_repeated := ⟨q1639, q151, by decide⟩
theorem ce_X6_series : Cee mX6_series := ⟨q1614, q151, by decide⟩
theorem ce_X6_take : Cee mX6_take := ⟨q1678, q151, by decide⟩
theorem ce_X6_takes : Cee mX6_takes := ⟨q1716, q151, by decide⟩
theorem ce_X6_unit : Cee mX6_unit := ⟨q1712, q151, by decide⟩
theorem ce_X6_whole : Cee mX6_whole := ⟨q1610, q151, by decide⟩
theorem ce_X7_init : Cee mX7_init := ⟨q1694, q153, by decide⟩
theorem ce_X8_check : Cee mX8_check := ⟨q2018, q154, by decide⟩
theorem ce_X8_checkAll : Cee mX8_checkAll := ⟨q1977, q154, by decide⟩
theorem ce_X8_cues : Cee mX8_cues := ⟨q2034, q154, by decide⟩
theorem ce_X8_init : Cee mX8_init := ⟨q1731, q154, by decide⟩
theorem ce_X8_leaves : Cee mX8_leaves := ⟨q2217, q154, by decide⟩
theorem ce_X8_score : Cee mX8_score := ⟨q1112, q154, by decide⟩
theorem ce_X8_writePart : Cee mX8_writePart := ⟨q1268, q154, by decide⟩
theorem ce_X9_init : Cee mX9_init := ⟨q1922, q155, by decide⟩
theorem ce_X9_length : Cee mX9_length := ⟨q1123, q155, by decide⟩
theorem ce_X9_part : Cee mX9_part := ⟨q887, q155, by decide⟩
theorem ce_X9_partCount : Cee mX9_partCount := ⟨q868, q155, by decide⟩
theorem ce_X10_cues : Cee mX10_cues := ⟨q2029, q156, by decide⟩
theorem ce_X10_displacement : Cee mX10_displacement := ⟨q2451, q156, by decide⟩
theorem ce_X10_init : Cee mX10_init := ⟨q1946, q156, by decide⟩
theorem ce_X10_length : Cee mX10_length := ⟨q1129, q156, by decide⟩
theorem ce_X10_perform : Cee mX10_perform := ⟨q1226, q156, by decide⟩
theorem ce_X10_renamed : Cee mX10_renamed := ⟨q2255, q156, by decide⟩
theorem ce_X10_write : Cee mX10_write := ⟨q1293, q156, by decide⟩
theorem ce_X11_init : Cee mX11_init := ⟨q1728, q157, by decide⟩
theorem ce_X11_part : Cee mX11_part := ⟨q879, q157, by decide⟩
theorem ce_X11_partCount : Cee mX11_partCount := ⟨q865, q157, by decide⟩
theorem ce_X12_cues : Cee mX12_cues := ⟨q2024, q158, by decide⟩
theorem ce_X12_displacement : Cee mX12_displacement := ⟨q2440, q158, by decide⟩
theorem ce_X12_init : Cee mX12_init := ⟨q1725, q158, by decide⟩
theorem ce_X12_length : Cee mX12_length := ⟨q1120, q158, by decide⟩
theorem ce_X12_perform : Cee mX12_perform := ⟨q1191, q158, by decide⟩
theorem ce_X12_renamed : Cee mX12_renamed := ⟨q2244, q158, by decide⟩
theorem ce_X12_write : Cee mX12_write := ⟨q1255, q158, by decide⟩
theorem ce_X13_changedBy : Cee mX13_changedBy := ⟨q2238, q163, by decide⟩
theorem ce_X13_check : Cee mX13_check := ⟨q1986, q163, by decide⟩
theorem ce_X13_displacement : Cee mX13_displacement := ⟨q2446, q163, by decide⟩
theorem ce_X13_init : Cee mX13_init := ⟨q1899, q163, by decide⟩
theorem ce_X13_length : Cee mX13_length := ⟨q1126, q163, by decide⟩
theorem ce_X13_perform : Cee mX13_perform := ⟨q1197, q163, by decide⟩
theorem ce_X13_renamed : Cee mX13_renamed := ⟨q2251, q163, by decide⟩
theorem ce_X13_used : Cee mX13_used := ⟨q2049, q163, by decide⟩
theorem ce_X13_write : Cee mX13_write := ⟨q1274, q163, by decide⟩
theorem ce_X14_displacement : Cee mX14_displacement := ⟨q2443, q164, by decide⟩
theorem ce_X14_init : Cee mX14_init := ⟨q1919, q164, by decide⟩
theorem ce_X14_perform : Cee mX14_perform := ⟨q1194, q164, by decide⟩
theorem ce_X14_renamed : Cee mX14_renamed := ⟨q2247, q164, by decide⟩
theorem ce_X14_write : Cee mX14_write := ⟨q1260, q164, by decide⟩
theorem ce_X15_displacement : Cee mX15_displacement := ⟨q2454, q165, by decide⟩
theorem ce_X15_init : Cee mX15_init := ⟨q1940, q165, by decide⟩
theorem ce_X15_perform : Cee mX15_perform := ⟨q1230, q165, by decide⟩
theorem ce_X15_renamed : Cee mX15_renamed := ⟨q2258, q165, by decide⟩
theorem ce_X15_write : Cee mX15_write := ⟨q1301, q165, by decide⟩
theorem ce_X16_check : Cee mX16_check := ⟨q2043, q166, by decide⟩
theorem ce_X16_displacement : Cee mX16_displacement := ⟨q2457, q166, by decide⟩
theorem ce_X16_init : Cee mX16_init := ⟨q1958, q166, by decide⟩
theorem ce_X16_length : Cee mX16_length := ⟨q1133, q166, by decide⟩
theorem ce_X16_of : Cee mX16_of := ⟨q1954, q166, by decide⟩
theorem ce_X16_part : Cee mX16_part := ⟨q893, q166, by decide⟩
theorem ce_X16_partCount : Cee mX16_partCount := ⟨q874, q166, by decide⟩
theorem ce_X16_perform : Cee mX16_perform := ⟨q1233, q166, by decide⟩
theorem ce_X16_renamed : Cee mX16_renamed := ⟨q2262, q166, by decide⟩
theorem ce_X16_with : Cee mX16_with := ⟨q2638, q166, by decide⟩
theorem ce_X16_write : Cee mX16_write := ⟨q1308, q166, by decide⟩
theorem ce_X17_init : Cee mX17_init := ⟨q2002, q167, by decide⟩
theorem ce_X18_hasNext : Cee mX18_hasNext := ⟨q771, q168, by decide⟩
theorem ce_X18_init : Cee mX18_init := ⟨q2225, q168, by decide⟩
theorem ce_X18_next : Cee mX18_next := ⟨q826, q168, by decide⟩
theorem ce_X18_next_2 : Cee mX18_next_2 := ⟨q830, q168, by decide⟩
theorem ce_X19_haveExchanged : Cee mX19_haveExchanged := ⟨q2385, q169, by decide⟩
theorem ce_X19_init : Cee mX19_init := ⟨q2330, q169, by decide⟩
theorem ce_X19_inspect : Cee mX19_inspect := ⟨q2356, q169, by decide⟩
theorem ce_X19_inspectPairs : Cee mX19_inspectPairs := ⟨q2377, q169, by decide⟩
theorem ce_X19_isOff : Cee mX19_isOff := ⟨q2367, q169, by decide⟩
theorem ce_X19_isTogether : Cee mX19_isTogether := ⟨q2381, q169, by decide⟩
theorem ce_X19_isWhere : Cee mX19_isWhere := ⟨q2389, q169, by decide⟩
theorem ce_X19_move : Cee mX19_move := ⟨q2360, q169, by decide⟩
theorem ce_X19_tell : Cee mX19_tell := ⟨q2372, q169, by decide⟩
theorem ce_X20_canGo : Cee mX20_canGo := ⟨q2601, q172, by decide⟩
theorem ce_X20_canStay : Cee mX20_canStay := ⟨q2605, q172, by decide⟩
theorem ce_X20_end : Cee mX20_end := ⟨q2570, q172, by decide⟩
theorem ce_X20_find : Cee mX20_find := ⟨q2589, q172, by decide⟩
theorem ce_X20_follow : Cee mX20_follow := ⟨q2613, q172, by decide⟩
theorem ce_X20_init : Cee mX20_init := ⟨q2547, q172, by decide⟩
theorem ce_X20_isStep : Cee mX20_isStep := ⟨q2619, q172, by decide⟩
theorem ce_X20_keep : Cee mX20_keep := ⟨q2576, q172, by decide⟩
theorem ce_X20_leadTo : Cee mX20_leadTo := ⟨q2609, q172, by decide⟩
theorem ce_X20_neighbor : Cee mX20_neighbor := ⟨q2582, q172, by decide⟩
theorem ce_X20_plan : Cee mX20_plan := ⟨q2565, q172, by decide⟩
theorem ce_X20_reachable : Cee mX20_reachable := ⟨q2593, q172, by decide⟩
theorem ce_X21_depth : Cee mX21_depth := ⟨q2170, q3304, by decide⟩
theorem ce_X21_nodes : Cee mX21_nodes := ⟨q2181, q3304, by decide⟩
theorem ce_X21_used : Cee mX21_used := ⟨q2051, q3304, by decide⟩
theorem ce_J0_init : Cee mJ0_init := ⟨q242, q120, by decide⟩
theorem ce_J0_isEmpty : Cee mJ0_isEmpty := ⟨q777, q120, by decide⟩
theorem ce_J1_init : Cee mJ1_init := ⟨q239, q121, by decide⟩
theorem ce_J1_listIterator : Cee mJ1_listIterator := ⟨q366, q121, by decide⟩
theorem ce_J2_init : Cee mJ2_init := ⟨q236, q122, by decide⟩
theorem ce_J2_iterator : Cee mJ2_iterator := ⟨q360, q122, by decide⟩
theorem ce_J3_addAll : Cee mJ3_addAll := ⟨q1349, q123, by decide⟩
theorem ce_J3_addAll_2 : Cee mJ3_addAll_2 := ⟨q1353, q123, by decide⟩
theorem ce_J3_addFirst : Cee mJ3_addFirst := ⟨q912, q123, by decide⟩
theorem ce_J3_addLast : Cee mJ3_addLast := ⟨q1547, q123, by decide⟩
theorem ce_J3_checkElementIndex : Cee mJ3_checkElementIndex := ⟨q958, q123, by decide⟩
theorem ce_J3_checkPositionIndex : Cee mJ3_checkPositionIndex := ⟨q717, q123, by decide⟩
theorem ce_J3_clear : Cee mJ3_clear := ⟨q1423, q123, by decide⟩
theorem ce_J3_get : Cee mJ3_get := ⟨q954, q123, by decide⟩
theorem ce_J3_init : Cee mJ3_init := ⟨q233, q123, by decide⟩
theorem ce_J3_init_2 : Cee mJ3_init_2 := ⟨q1344, q123, by decide⟩
theorem ce_J3_isElementIndex : Cee mJ3_isElementIndex := ⟨q962, q123, by decide⟩
theorem ce_J3_isPositionIndex : Cee mJ3_isPositionIndex := ⟨q721, q123, by decide⟩
theorem ce_J3_linkFirst : Cee mJ3_linkFirst := ⟨q916, q123, by decide⟩
theorem ce_J3_linkLast : Cee mJ3_linkLast := ⟨q1551, q123, by decide⟩
theorem ce_J3_listIterator : Cee mJ3_listIterator := ⟨q713, q123, by decide⟩
theorem ce_J3_node : Cee mJ3_node := ⟨q744, q123, by decide⟩
theorem ce_J3_outOfBoundsMsg : Cee mJ3_outOfBoundsMsg := ⟨q726, q123, by decide⟩
theorem ce_J3_removeFirst : Cee mJ3_removeFirst := ⟨q834, q123, by decide⟩
theorem ce_J3_removeLast : Cee mJ3_removeLast := ⟨q2687, q123, by decide⟩
theorem ce_J3_size : Cee mJ3_size := ⟨q792, q123, by decide⟩
theorem ce_J3_toArray : Cee mJ3_toArray := ⟨q1393, q123, by decide⟩
theorem ce_J3_unlinkFirst : Cee mJ3_unlinkFirst := ⟨q859, q123, by decide⟩
theorem ce_J3_unlinkLast : Cee mJ3_unlinkLast := ⟨q2691, q123, by decide⟩
theorem ce_J4_addLast : Cee mJ4_addLast := ⟨q1516, q124, by decide⟩
theorem ce_J4_circularClear : Cee mJ4_circularClear := ⟨q1430, q124, by decide⟩
theorem ce_J4_clear : Cee mJ4_clear := ⟨q1427, q124, by decide⟩
theorem ce_J4_dec : Cee mJ4_dec := ⟨q2683, q124, by decide⟩
theorem ce_J4_elementAt : Cee mJ4_elementAt := ⟨q1507, q124, by decide⟩
theorem ce_J4_grow : Cee mJ4_grow := ⟨q1520, q124, by decide⟩
theorem ce_J4_inc : Cee mJ4_inc := ⟨q1510, q124, by decide⟩
theorem ce_J4_init : Cee mJ4_init := ⟨q269, q124, by decide⟩
theorem ce_J4_isEmpty : Cee mJ4_isEmpty := ⟨q2672, q124, by decide⟩
theorem ce_J4_newCapacity : Cee mJ4_newCapacity := ⟨q1525, q124, by decide⟩
theorem ce_J4_pollFirst : Cee mJ4_pollFirst := ⟨q1504, q124, by decide⟩
theorem ce_J4_pollLast : Cee mJ4_pollLast := ⟨q2680, q124, by decide⟩
theorem ce_J4_removeFirst : Cee mJ4_removeFirst := ⟨q1500, q124, by decide⟩
theorem ce_J4_removeLast : Cee mJ4_removeLast := ⟨q2676, q124, by decide⟩
theorem ce_J4_size : Cee mJ4_size := ⟨q783, q124, by decide⟩
theorem ce_J4_sub : Cee mJ4_sub := ⟨q786, q124, by decide⟩
theorem ce_J4_toArray : Cee mJ4_toArray := ⟨q1363, q124, by decide⟩
theorem ce_J4_toArray_2 : Cee mJ4_toArray_2 := ⟨q1368, q124, by decide⟩
theorem ce_J5_append : Cee mJ5_append := ⟨q438, q125, by decide⟩
theorem ce_J5_appendNull : Cee mJ5_appendNull := ⟨q442, q125, by decide⟩
theorem ce_J5_append_2 : Cee mJ5_append_2 := ⟨q558, q125, by decide⟩
theorem ce_J5_append_3 : Cee mJ5_append_3 := ⟨q1284, q125, by decide⟩
theorem ce_J5_charAt : Cee mJ5_charAt := ⟨q1670, q125, by decide⟩
theorem ce_J5_ensureCapacityInternal : Cee mJ5_ensureCapacityInternal := ⟨q446, q125, by decide⟩
theorem ce_J5_getValue : Cee mJ5_getValue := ⟨q595, q125, by decide⟩
theorem ce_J5_inflate : Cee mJ5_inflate := ⟨q530, q125, by decide⟩
theorem ce_J5_inflateIfNeededFor : Cee mJ5_inflateIfNeededFor := ⟨q525, q125, by decide⟩
theorem ce_J5_init : Cee mJ5_init := ⟨q290, q125, by decide⟩
theorem ce_J5_isLatin1 : Cee mJ5_isLatin1 := ⟨q482, q125, by decide⟩
theorem ce_J5_length : Cee mJ5_length := ⟨q603, q125, by decide⟩
theorem ce_J5_newCapacity : Cee mJ5_newCapacity := ⟨q450, q125, by decide⟩
theorem ce_J5_putStringAt : Cee mJ5_putStringAt := ⟨q521, q125, by decide⟩
theorem ce_J5_subSequence : Cee mJ5_subSequence := ⟨q1872, q125, by decide⟩
theorem ce_J5_substring : Cee mJ5_substring := ⟨q1880, q125, by decide⟩
theorem ce_J6_append : Cee mJ6_append := ⟨q435, q126, by decide⟩
theorem ce_J6_append_2 : Cee mJ6_append_2 := ⟨q555, q126, by decide⟩
theorem ce_J6_append_3 : Cee mJ6_append_3 := ⟨q1281, q126, by decide⟩
theorem ce_J6_charAt : Cee mJ6_charAt := ⟨q1667, q126, by decide⟩
theorem ce_J6_init : Cee mJ6_init := ⟨q287, q126, by decide⟩
theorem ce_J6_length : Cee mJ6_length := ⟨q601, q126, by decide⟩
theorem ce_J6_subSequence : Cee mJ6_subSequence := ⟨q1869, q126, by decide⟩
theorem ce_J6_substring : Cee mJ6_substring := ⟨q1878, q126, by decide⟩
theorem ce_J6_toString : Cee mJ6_toString := ⟨q581, q126, by decide⟩
theorem ce_J7_charAt : Cee mJ7_charAt := ⟨q1202, q127, by decide⟩
theorem ce_J7_checkBoundsBeginEnd : Cee mJ7_checkBoundsBeginEnd := ⟨q494, q127, by decide⟩
theorem ce_J7_checkBoundsOffCount : Cee mJ7_checkBoundsOffCount := ⟨q542, q127, by decide⟩
theorem ce_J7_checkIndex : Cee mJ7_checkIndex := ⟨q1212, q127, by decide⟩
theorem ce_J7_coder : Cee mJ7_coder := ⟨q516, q127, by decide⟩
theorem ce_J7_equals : Cee mJ7_equals := ⟨q1326, q127, by decide⟩
theorem ce_J7_getBytes : Cee mJ7_getBytes := ⟨q549, q127, by decide⟩
theorem ce_J7_indexOf : Cee mJ7_indexOf := ⟨q1781, q127, by decide⟩
theorem ce_J7_indexOf_2 : Cee mJ7_indexOf_2 := ⟨q1785, q127, by decide⟩
theorem ce_J7_init : Cee mJ7_init := ⟨q586, q127, by decide⟩
theorem ce_J7_init_2 : Cee mJ7_init_2 := ⟨q589, q127, by decide⟩
theorem ce_J7_init_3 : Cee mJ7_init_3 := ⟨q1855, q127, by decide⟩
theorem ce_J7_isEmpty : Cee mJ7_isEmpty := ⟨q2625, q127, by decide⟩
theorem ce_J7_isLatin1 : Cee mJ7_isLatin1 := ⟨q1206, q127, by decide⟩
theorem ce_J7_length : Cee mJ7_length := ⟨q512, q127, by decide⟩
theorem ce_J7_subSequence : Cee mJ7_subSequence := ⟨q1841, q127, by decide⟩
theorem ce_J7_substring : Cee mJ7_substring := ⟨q1845, q127, by decide⟩
theorem ce_J7_toString : Cee mJ7_toString := ⟨q1893, q127, by decide⟩
theorem ce_J8_charAt : Cee mJ8_charAt := ⟨q1216, q128, by decide⟩
theorem ce_J8_checkBoundsBeginEnd : Cee mJ8_checkBoundsBeginEnd := ⟨q488, q128, by decide⟩
theorem ce_J8_checkBoundsOffCount : Cee mJ8_checkBoundsOffCount := ⟨q539, q128, by decide⟩
theorem ce_J8_checkIndex : Cee mJ8_checkIndex := ⟨q1219, q128, by decide⟩
theorem ce_J8_coderFromArrayLen : Cee mJ8_coderFromArrayLen := ⟨q666, q128, by decide⟩
theorem ce_J8_compress : Cee mJ8_compress := ⟨q656, q128, by decide⟩
theorem ce_J8_compress_2 : Cee mJ8_compress_2 := ⟨q659, q128, by decide⟩
theorem ce_J8_getChar : Cee mJ8_getChar := ⟨q662, q128, by decide⟩
theorem ce_J8_getChars : Cee mJ8_getChars := ⟨q571, q128, by decide⟩
theorem ce_J8_getChars_2 : Cee mJ8_getChars_2 := ⟨q574, q128, by decide⟩
theorem ce_J8_indexOf : Cee mJ8_indexOf := ⟨q1800, q128, by decide⟩
theorem ce_J8_indexOfChar : Cee mJ8_indexOfChar := ⟨q1806, q128, by decide⟩
theorem ce_J8_indexOfCharUnsafe : Cee mJ8_indexOfCharUnsafe := ⟨q1809, q128, by decide⟩
theorem ce_J8_indexOfSupplementary : Cee mJ8_indexOfSupplementary := ⟨q1812, q128, by decide⟩
theorem ce_J8_inflate : Cee mJ8_inflate := ⟨q536, q128, by decide⟩
theorem ce_J8_length : Cee mJ8_length := ⟨q491, q128, by decide⟩
theorem ce_J8_newBytesFor : Cee mJ8_newBytesFor := ⟨q296, q128, by decide⟩
theorem ce_J8_newBytesLength : Cee mJ8_newBytesLength := ⟨q299, q128, by decide⟩
theorem ce_J8_newString : Cee mJ8_newString := ⟨q1858, q128, by decide⟩
theorem ce_J8_putChar : Cee mJ8_putChar := ⟨q502, q128, by decide⟩
theorem ce_J8_putCharSB : Cee mJ8_putCharSB := ⟨q1290, q128, by decide⟩
theorem ce_J8_putCharsAt : Cee mJ8_putCharsAt := ⟨q485, q128, by decide⟩
theorem ce_J9_getLocalizedMessage : Cee mJ9_getLocalizedMessage := ⟨q1042, q130, by decide⟩
theorem ce_J9_getMessage : Cee mJ9_getMessage := ⟨q1055, q130, by decide⟩
theorem ce_J9_init : Cee mJ9_init := ⟨q402, q130, by decide⟩
theorem ce_J9_init_2 : Cee mJ9_init_2 := ⟨q640, q130, by decide⟩
theorem ce_J9_init_3 : Cee mJ9_init_3 := ⟨q976, q130, by decide⟩
theorem ce_J9_init_4 : Cee mJ9_init_4 := ⟨q1700, q130, by decide⟩
theorem ce_J9_toString : Cee mJ9_toString := ⟨q989, q130, by decide⟩
theorem ce_J10_init : Cee mJ10_init := ⟨q637, q131, by decide⟩
theorem ce_J10_init_2 : Cee mJ10_init_2 := ⟨q852, q131, by decide⟩
theorem ce_J10_init_3 : Cee mJ10_init_3 := ⟨q973, q131, by decide⟩
theorem ce_J10_init_4 : Cee mJ10_init_4 := ⟨q1697, q131, by decide⟩
theorem ce_J11_init : Cee mJ11_init := ⟨q634, q132, by decide⟩
theorem ce_J11_init_2 : Cee mJ11_init_2 := ⟨q849, q132, by decide⟩
theorem ce_J11_init_3 : Cee mJ11_init_3 := ⟨q970, q132, by decide⟩
theorem ce_J12_init : Cee mJ12_init := ⟨q631, q133, by decide⟩
theorem ce_J12_init_2 : Cee mJ12_init_2 := ⟨q1418, q133, by decide⟩
theorem ce_J13_init : Cee mJ13_init := ⟨q680, q134, by decide⟩
theorem ce_J13_init_2 : Cee mJ13_init_2 := ⟨q883, q134, by decide⟩
theorem ce_J14_init : Cee mJ14_init := ⟨q1441, q135, by decide⟩
theorem ce_J15_ordinal : Cee mJ15_ordinal := ⟨q1098, q137, by decide⟩
theorem ce_J16_init : Cee mJ16_init := ⟨q846, q139, by decide⟩
theorem ce_J16_init_2 : Cee mJ16_init_2 := ⟨q967, q139, by decide⟩
theorem ce_J17_init : Cee mJ17_init := ⟨q1538, q141, by decide⟩
theorem ce_J17_init_2 : Cee mJ17_init_2 := ⟨q2136, q141, by decide⟩
theorem ce_J18_checkLength : Cee mJ18_checkLength := ⟨q613, q142, by decide⟩
theorem ce_J18_copyOf : Cee mJ18_copyOf := ⟨q464, q142, by decide⟩
theorem ce_J18_copyOfRange : Cee mJ18_copyOfRange := ⟨q607, q142, by decide⟩
theorem ce_J18_copyOfRangeByte : Cee mJ18_copyOfRangeByte := ⟨q610, q142, by decide⟩
theorem ce_J18_copyOfRange_2 : Cee mJ18_copyOfRange_2 := ⟨q1371, q142, by decide⟩
theorem ce_J18_copyOf_2 : Cee mJ18_copyOf_2 := ⟨q1383, q142, by decide⟩
theorem ce_J18_copyOf_3 : Cee mJ18_copyOf_3 := ⟨q1387, q142, by decide⟩
theorem ce_J19_abs : Cee mJ19_abs := ⟨q2527, q143, by decide⟩
theorem ce_J19_max : Cee mJ19_max := ⟨q456, q143, by decide⟩
theorem ce_J19_min : Cee mJ19_min := ⟨q474, q143, by decide⟩
theorem ce_J20_init : Cee mJ20_init := ⟨q921, q144, by decide⟩
theorem ce_J21_checkIndex : Cee mJ21_checkIndex := ⟨q900, q146, by decide⟩
theorem ce_J22_checkFromIndexSize : Cee mJ22_checkFromIndexSize := ⟨q545, q147, by decide⟩
theorem ce_J22_checkFromToIndex : Cee mJ22_checkFromToIndex := ⟨q499, q147, by decide⟩
theorem ce_J22_checkIndex : Cee mJ22_checkIndex := ⟨q903, q147, by decide⟩
theorem ce_J23_canEncode : Cee mJ23_canEncode := ⟨q1287, q148, by decide⟩
theorem ce_J23_canEncode_2 : Cee mJ23_canEncode_2 := ⟨q1792, q148, by decide⟩
theorem ce_J23_charAt : Cee mJ23_charAt := ⟨q1209, q148, by decide⟩
theorem ce_J23_equals : Cee mJ23_equals := ⟨q1330, q148, by decide⟩
theorem ce_J23_indexOf : Cee mJ23_indexOf := ⟨q1789, q148, by decide⟩
theorem ce_J23_indexOfChar : Cee mJ23_indexOfChar := ⟨q1797, q148, by decide⟩
theorem ce_J23_inflate : Cee mJ23_inflate := ⟨q533, q148, by decide⟩
theorem ce_J23_newString : Cee mJ23_newString := ⟨q1849, q148, by decide⟩
theorem ce_J24_init : Cee mJ24_init := ⟨q1577, q149, by decide⟩
theorem ce_J25_hugeLength : Cee mJ25_hugeLength := ⟨q460, q150, by decide⟩
theorem ce_J25_newLength : Cee mJ25_newLength := ⟨q453, q150, by decide⟩
theorem ce_J26_add : Cee mJ26_add := ⟨q1761, q152, by decide⟩
theorem ce_J26_add_2 : Cee mJ26_add_2 := ⟨q1765, q152, by decide⟩
theorem ce_J26_elementData : Cee mJ26_elementData := ⟨q907, q152, by decide⟩
theorem ce_J26_get : Cee mJ26_get := ⟨q897, q152, by decide⟩
theorem ce_J26_grow : Cee mJ26_grow := ⟨q1769, q152, by decide⟩
theorem ce_J26_grow_2 : Cee mJ26_grow_2 := ⟨q1773, q152, by decide⟩
theorem ce_J26_init : Cee mJ26_init := ⟨q1618, q152, by decide⟩
theorem ce_J26_init_2 : Cee mJ26_init_2 := ⟨q2641, q152, by decide⟩
theorem ce_J26_isEmpty : Cee mJ26_isEmpty := ⟨q2538, q152, by decide⟩
theorem ce_J26_iterator : Cee mJ26_iterator := ⟨q2393, q152, by decide⟩
theorem ce_J26_listIterator : Cee mJ26_listIterator := ⟨q372, q152, by decide⟩
theorem ce_J26_outOfBoundsMsg : Cee mJ26_outOfBoundsMsg := ⟨q428, q152, by decide⟩
theorem ce_J26_rangeCheckForAdd : Cee mJ26_rangeCheckForAdd := ⟨q377, q152, by decide⟩
theorem ce_J26_size : Cee mJ26_size := ⟨q789, q152, by decide⟩
theorem ce_J26_toArray : Cee mJ26_toArray := ⟨q1380, q152, by decide⟩
theorem ce_J27_init : Cee mJ27_init := ⟨q1752, q159, by decide⟩
theorem ce_J28_bitCount : Cee mJ28_bitCount := ⟨q2495, q160, by decide⟩
theorem ce_J28_getChars : Cee mJ28_getChars := ⟨q564, q160, by decide⟩
theorem ce_J28_init : Cee mJ28_init := ⟨q1749, q160, by decide⟩
theorem ce_J28_intValue : Cee mJ28_intValue := ⟨q1830, q160, by decide⟩
theorem ce_J28_numberOfTrailingZeros : Cee mJ28_numberOfTrailingZeros := ⟨q1998, q160, by decide⟩
theorem ce_J28_stringSize : Cee mJ28_stringSize := ⟨q561, q160, by decide⟩
theorem ce_J28_valueOf : Cee mJ28_valueOf := ⟨q1740, q160, by decide⟩
theorem ce_J29_highSurrogate : Cee mJ29_highSurrogate := ⟨q1818, q162, by decide⟩
theorem ce_J29_isValidCodePoint : Cee mJ29_isValidCodePoint := ⟨q1815, q162, by decide⟩
theorem ce_J29_lowSurrogate : Cee mJ29_lowSurrogate := ⟨q1822, q162, by decide⟩
theorem ce_J30_checkForComodification : Cee mJ30_checkForComodification := ⟨q1071, q170, by decide⟩
theorem ce_J30_hasNext : Cee mJ30_hasNext := ⟨q808, q170, by decide⟩
theorem ce_J30_init : Cee mJ30_init := ⟨q691, q170, by decide⟩
theorem ce_J30_next : Cee mJ30_next := ⟨q1065, q170, by decide⟩
theorem ce_J31_init : Cee mJ31_init := ⟨q2469, q171, by decide⟩
theorem ce_J31_init_2 : Cee mJ31_init_2 := ⟨q2487, q171, by decide⟩
theorem ce_J32_checkForComodification : Cee mJ32_checkForComodification := ⟨q947, q173, by decide⟩
theorem ce_J32_hasNext : Cee mJ32_hasNext := ⟨q798, q173, by decide⟩
theorem ce_J32_next : Cee mJ32_next := ⟨q942, q173, by decide⟩
theorem ce_J33_init : Cee mJ33_init := ⟨q688, q175, by decide⟩
theorem ce_J34_checkForComodification : Cee mJ34_checkForComodification := ⟨q1084, q176, by decide⟩
theorem ce_J34_hasNext : Cee mJ34_hasNext := ⟨q817, q176, by decide⟩
theorem ce_J34_init : Cee mJ34_init := ⟨q739, q176, by decide⟩
theorem ce_J34_next : Cee mJ34_next := ⟨q1080, q176, by decide⟩
theorem ce_J35_init : Cee mJ35_init := ⟨q184, q3303, by decide⟩
end LK
