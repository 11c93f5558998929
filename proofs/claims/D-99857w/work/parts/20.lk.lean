/-! ===== the entries of the constant pools ===== -/
set_option maxRecDepth 100000
theorem gf_X12_7 : xGet RX12 7 11 0 := xGet.of (own := RX12) (index := 7) (ci := 11) (k := 0) (C := RX12) (T := TX12) (N := 3) rfl in_X12 (by decide) q1466
theorem pf_X12_7 : xPut RX12 7 11 0 (.object "TinFen$Fen") true := xPut.ofF (own := RX12) (index := 7) (ci := 11) (k := 0) (C := RX12) (T := TX12) (N := 3) tyX12 rfl in_X12 tyX12_ok nmX12 (by decide) rfl rfl rfl q1466
theorem gf_X12_13 : xGet RX12 13 11 1 := xGet.of (own := RX12) (index := 13) (ci := 11) (k := 1) (C := RX12) (T := TX12) (N := 3) rfl in_X12 (by decide) q1468
theorem pf_X12_13 : xPut RX12 13 11 1 (.array (.object "TinFen$Step")) true := xPut.ofF (own := RX12) (index := 13) (ci := 11) (k := 1) (C := RX12) (T := TX12) (N := 3) tyX12 rfl in_X12 tyX12_ok nmX12 (by decide) rfl rfl rfl q1468
theorem gf_X12_17 : xGet RX12 17 11 2 := xGet.of (own := RX12) (index := 17) (ci := 11) (k := 2) (C := RX12) (T := TX12) (N := 3) rfl in_X12 (by decide) q1470
theorem pf_X12_17 : xPut RX12 17 11 2 (.int) true := xPut.ofF (own := RX12) (index := 17) (ci := 11) (k := 2) (C := RX12) (T := TX12) (N := 3) tyX12 rfl in_X12 tyX12_ok nmX12 (by decide) rfl rfl rfl q1470
theorem gf_X6_9 : xGet RX6 9 5 0 := xGet.of (own := RX6) (index := 9) (ci := 5) (k := 0) (C := RX6) (T := TX6) (N := 10) rfl in_X6 (by decide) q386
theorem pf_X6_9 : xPut RX6 9 5 0 (.array (.long)) true := xPut.ofF (own := RX6) (index := 9) (ci := 5) (k := 0) (C := RX6) (T := TX6) (N := 10) tyX6 rfl in_X6 tyX6_ok nmX6 (by decide) rfl rfl rfl q386
theorem gf_X6_15 : xGet RX6 15 5 1 := xGet.of (own := RX6) (index := 15) (ci := 5) (k := 1) (C := RX6) (T := TX6) (N := 10) rfl in_X6 (by decide) q388
theorem pf_X6_15 : xPut RX6 15 5 1 (.array (.int)) true := xPut.ofF (own := RX6) (index := 15) (ci := 5) (k := 1) (C := RX6) (T := TX6) (N := 10) tyX6 rfl in_X6 tyX6_ok nmX6 (by decide) rfl rfl rfl q388
theorem gf_X6_21 : xGet RX6 21 5 2 := xGet.of (own := RX6) (index := 21) (ci := 5) (k := 2) (C := RX6) (T := TX6) (N := 10) rfl in_X6 (by decide) q391
theorem pf_X6_21 : xPut RX6 21 5 2 (.array (.object "TinFen$Person")) true := xPut.ofF (own := RX6) (index := 21) (ci := 5) (k := 2) (C := RX6) (T := TX6) (N := 10) tyX6 rfl in_X6 tyX6_ok nmX6 (by decide) rfl rfl rfl q391
theorem gf_X6_27 : xGet RX6 27 5 3 := xGet.of (own := RX6) (index := 27) (ci := 5) (k := 3) (C := RX6) (T := TX6) (N := 10) rfl in_X6 (by decide) q394
theorem pf_X6_27 : xPut RX6 27 5 3 (.array (.object "TinFen$Tin")) true := xPut.ofF (own := RX6) (index := 27) (ci := 5) (k := 3) (C := RX6) (T := TX6) (N := 10) tyX6 rfl in_X6 tyX6_ok nmX6 (by decide) rfl rfl rfl q394
theorem gf_X6_55 : xGet RX6 55 5 4 := xGet.of (own := RX6) (index := 55) (ci := 5) (k := 4) (C := RX6) (T := TX6) (N := 10) rfl in_X6 (by decide) q396
theorem pf_X6_55 {ini : Bool} : xPut RX6 55 5 4 (.int) ini := xPut.of (own := RX6) (index := 55) (ci := 5) (k := 4) (C := RX6) (T := TX6) (N := 10) tyX6 rfl in_X6 tyX6_ok nmX6 (by decide) rfl rfl q396
theorem gf_X6_42 : xGet RX6 42 5 5 := xGet.of (own := RX6) (index := 42) (ci := 5) (k := 5) (C := RX6) (T := TX6) (N := 10) rfl in_X6 (by decide) q399
theorem pf_X6_42 {ini : Bool} : xPut RX6 42 5 5 (.int) ini := xPut.of (own := RX6) (index := 42) (ci := 5) (k := 5) (C := RX6) (T := TX6) (N := 10) tyX6 rfl in_X6 tyX6_ok nmX6 (by decide) rfl rfl q399
theorem gf_X6_68 : xGet RX6 68 5 6 := xGet.of (own := RX6) (index := 68) (ci := 5) (k := 6) (C := RX6) (T := TX6) (N := 10) rfl in_X6 (by decide) q402
theorem pf_X6_68 {ini : Bool} : xPut RX6 68 5 6 (.int) ini := xPut.of (own := RX6) (index := 68) (ci := 5) (k := 6) (C := RX6) (T := TX6) (N := 10) tyX6 rfl in_X6 tyX6_ok nmX6 (by decide) rfl rfl q402
theorem gf_X6_49 : xGet RX6 49 5 7 := xGet.of (own := RX6) (index := 49) (ci := 5) (k := 7) (C := RX6) (T := TX6) (N := 10) rfl in_X6 (by decide) q405
theorem pf_X6_49 {ini : Bool} : xPut RX6 49 5 7 (.int) ini := xPut.of (own := RX6) (index := 49) (ci := 5) (k := 7) (C := RX6) (T := TX6) (N := 10) tyX6 rfl in_X6 tyX6_ok nmX6 (by decide) rfl rfl q405
theorem gf_X6_31 : xGet RX6 31 5 8 := xGet.of (own := RX6) (index := 31) (ci := 5) (k := 8) (C := RX6) (T := TX6) (N := 10) rfl in_X6 (by decide) q408
theorem pf_X6_31 {ini : Bool} : xPut RX6 31 5 8 (.int) ini := xPut.of (own := RX6) (index := 31) (ci := 5) (k := 8) (C := RX6) (T := TX6) (N := 10) tyX6 rfl in_X6 tyX6_ok nmX6 (by decide) rfl rfl q408
theorem gf_X6_71 : xGet RX6 71 5 9 := xGet.of (own := RX6) (index := 71) (ci := 5) (k := 9) (C := RX6) (T := TX6) (N := 10) rfl in_X6 (by decide) q411
theorem pf_X6_71 {ini : Bool} : xPut RX6 71 5 9 (.int) ini := xPut.of (own := RX6) (index := 71) (ci := 5) (k := 9) (C := RX6) (T := TX6) (N := 10) tyX6 rfl in_X6 tyX6_ok nmX6 (by decide) rfl rfl q411
theorem gf_X6_74 : xGet RX6 74 8 0 := xGet.of (own := RX6) (index := 74) (ci := 8) (k := 0) (C := RX9) (T := TX9) (N := 4) rfl in_X9 (by decide) q859
theorem gf_X6_100 : xGet RX6 100 8 1 := xGet.ofN (own := RX6) (index := 100) (ci := 8) (k := 1) (C := RX9) (T := TX9) (N := 4) rfl in_X9 (by decide) q861
theorem pf_X6_100 {ini : Bool} : xPut RX6 100 8 1 (.int) ini := xPut.ofN (own := RX6) (index := 100) (ci := 8) (k := 1) (C := RX9) (T := TX9) (N := 4) tyX9 rfl in_X9 tyX9_ok nmX9 (by decide) rfl rfl q861
theorem gf_X6_89 : xGet RX6 89 8 2 := xGet.ofN (own := RX6) (index := 89) (ci := 8) (k := 2) (C := RX9) (T := TX9) (N := 4) rfl in_X9 (by decide) q865
theorem pf_X6_89 {ini : Bool} : xPut RX6 89 8 2 (.int) ini := xPut.ofN (own := RX6) (index := 89) (ci := 8) (k := 2) (C := RX9) (T := TX9) (N := 4) tyX9 rfl in_X9 tyX9_ok nmX9 (by decide) rfl rfl q865
theorem gf_X6_115 : xGet RX6 115 8 3 := xGet.ofN (own := RX6) (index := 115) (ci := 8) (k := 3) (C := RX9) (T := TX9) (N := 4) rfl in_X9 (by decide) q868
theorem pf_X6_115 {ini : Bool} : xPut RX6 115 8 3 (.int) ini := xPut.ofN (own := RX6) (index := 115) (ci := 8) (k := 3) (C := RX9) (T := TX9) (N := 4) tyX9 rfl in_X9 tyX9_ok nmX9 (by decide) rfl rfl q868
theorem gf_X6_78 : xGet RX6 78 9 0 := xGet.of (own := RX6) (index := 78) (ci := 9) (k := 0) (C := RX10) (T := TX10) (N := 7) rfl in_X10 (by decide) q927
theorem gf_X6_92 : xGet RX6 92 9 2 := xGet.ofN (own := RX6) (index := 92) (ci := 9) (k := 2) (C := RX10) (T := TX10) (N := 7) rfl in_X10 (by decide) q931
theorem pf_X6_92 {ini : Bool} : xPut RX6 92 9 2 (.int) ini := xPut.ofN (own := RX6) (index := 92) (ci := 9) (k := 2) (C := RX10) (T := TX10) (N := 7) tyX10 rfl in_X10 tyX10_ok nmX10 (by decide) rfl rfl q931
theorem gf_X6_94 : xGet RX6 94 9 3 := xGet.ofN (own := RX6) (index := 94) (ci := 9) (k := 3) (C := RX10) (T := TX10) (N := 7) rfl in_X10 (by decide) q936
theorem pf_X6_94 {ini : Bool} : xPut RX6 94 9 3 (.int) ini := xPut.ofN (own := RX6) (index := 94) (ci := 9) (k := 3) (C := RX10) (T := TX10) (N := 7) tyX10 rfl in_X10 tyX10_ok nmX10 (by decide) rfl rfl q936
theorem gf_X6_97 : xGet RX6 97 9 4 := xGet.ofN (own := RX6) (index := 97) (ci := 9) (k := 4) (C := RX10) (T := TX10) (N := 7) rfl in_X10 (by decide) q939
theorem pf_X6_97 {ini : Bool} : xPut RX6 97 9 4 (.int) ini := xPut.ofN (own := RX6) (index := 97) (ci := 9) (k := 4) (C := RX10) (T := TX10) (N := 7) tyX10 rfl in_X10 tyX10_ok nmX10 (by decide) rfl rfl q939
theorem gf_X6_125 : xGet RX6 125 9 5 := xGet.ofN (own := RX6) (index := 125) (ci := 9) (k := 5) (C := RX10) (T := TX10) (N := 7) rfl in_X10 (by decide) q942
theorem pf_X6_125 {ini : Bool} : xPut RX6 125 9 5 (.int) ini := xPut.ofN (own := RX6) (index := 125) (ci := 9) (k := 5) (C := RX10) (T := TX10) (N := 7) tyX10 rfl in_X10 tyX10_ok nmX10 (by decide) rfl rfl q942
theorem gf_X6_111 : xGet RX6 111 9 6 := xGet.ofN (own := RX6) (index := 111) (ci := 9) (k := 6) (C := RX10) (T := TX10) (N := 7) rfl in_X10 (by decide) q946
theorem pf_X6_111 {ini : Bool} : xPut RX6 111 9 6 (.boolean) ini := xPut.ofN (own := RX6) (index := 111) (ci := 9) (k := 6) (C := RX10) (T := TX10) (N := 7) tyX10 rfl in_X10 tyX10_ok nmX10 (by decide) rfl rfl q946
theorem gf_X3_7 : xGet RX3 7 2 6 := xGet.of (own := RX3) (index := 7) (ci := 2) (k := 6) (C := RX3) (T := TX3) (N := 8) rfl in_X3 (by decide) q258
theorem pf_X3_7 {ini : Bool} : xPut RX3 7 2 6 (.int) ini := xPut.of (own := RX3) (index := 7) (ci := 2) (k := 6) (C := RX3) (T := TX3) (N := 8) tyX3 rfl in_X3 tyX3_ok nmX3 (by decide) rfl rfl q258
theorem gf_X3_13 : xGet RX3 13 2 7 := xGet.of (own := RX3) (index := 13) (ci := 2) (k := 7) (C := RX3) (T := TX3) (N := 8) rfl in_X3 (by decide) q260
theorem pf_X3_13 {ini : Bool} : xPut RX3 13 2 7 (.int) ini := xPut.of (own := RX3) (index := 13) (ci := 2) (k := 7) (C := RX3) (T := TX3) (N := 8) tyX3 rfl in_X3 tyX3_ok nmX3 (by decide) rfl rfl q260
theorem gf_X1_9 : xGet RX1 9 1 0 := xGet.of (own := RX1) (index := 9) (ci := 1) (k := 0) (C := RX2) (T := TX2) (N := 19) rfl in_X2 (by decide) q317
theorem pf_X1_9 : xPut RX1 9 1 0 (.array (.byte)) true := xPut.ofF (own := RX1) (index := 9) (ci := 1) (k := 0) (C := RX2) (T := TX2) (N := 19) tyX2 rfl in_X2 tyX2_ok nmX2 (by decide) rfl rfl rfl q317
theorem gf_X1_26 : xGet RX1 26 1 1 := xGet.of (own := RX1) (index := 26) (ci := 1) (k := 1) (C := RX2) (T := TX2) (N := 19) rfl in_X2 (by decide) q320
theorem pf_X1_26 {ini : Bool} : xPut RX1 26 1 1 (.int) ini := xPut.of (own := RX1) (index := 26) (ci := 1) (k := 1) (C := RX2) (T := TX2) (N := 19) tyX2 rfl in_X2 tyX2_ok nmX2 (by decide) rfl rfl q320
theorem gf_X1_56 : xGet RX1 56 1 2 := xGet.of (own := RX1) (index := 56) (ci := 1) (k := 2) (C := RX2) (T := TX2) (N := 19) rfl in_X2 (by decide) q323
theorem pf_X1_56 {ini : Bool} : xPut RX1 56 1 2 (.int) ini := xPut.of (own := RX1) (index := 56) (ci := 1) (k := 2) (C := RX2) (T := TX2) (N := 19) tyX2 rfl in_X2 tyX2_ok nmX2 (by decide) rfl rfl q323
theorem gf_X1_50 : xGet RX1 50 1 3 := xGet.of (own := RX1) (index := 50) (ci := 1) (k := 3) (C := RX2) (T := TX2) (N := 19) rfl in_X2 (by decide) q326
theorem pf_X1_50 {ini : Bool} : xPut RX1 50 1 3 (.int) ini := xPut.of (own := RX1) (index := 50) (ci := 1) (k := 3) (C := RX2) (T := TX2) (N := 19) tyX2 rfl in_X2 tyX2_ok nmX2 (by decide) rfl rfl q326
theorem gf_X1_30 : xGet RX1 30 1 4 := xGet.of (own := RX1) (index := 30) (ci := 1) (k := 4) (C := RX2) (T := TX2) (N := 19) rfl in_X2 (by decide) q327
theorem pf_X1_30 {ini : Bool} : xPut RX1 30 1 4 (.int) ini := xPut.of (own := RX1) (index := 30) (ci := 1) (k := 4) (C := RX2) (T := TX2) (N := 19) tyX2 rfl in_X2 tyX2_ok nmX2 (by decide) rfl rfl q327
theorem gf_X1_53 : xGet RX1 53 1 5 := xGet.of (own := RX1) (index := 53) (ci := 1) (k := 5) (C := RX2) (T := TX2) (N := 19) rfl in_X2 (by decide) q330
theorem pf_X1_53 {ini : Bool} : xPut RX1 53 1 5 (.int) ini := xPut.of (own := RX1) (index := 53) (ci := 1) (k := 5) (C := RX2) (T := TX2) (N := 19) tyX2 rfl in_X2 tyX2_ok nmX2 (by decide) rfl rfl q330
theorem gf_X1_15 : xGet RX1 15 1 6 := xGet.of (own := RX1) (index := 15) (ci := 1) (k := 6) (C := RX2) (T := TX2) (N := 19) rfl in_X2 (by decide) q333
theorem pf_X1_15 : xPut RX1 15 1 6 (.object "java/lang/String") true := xPut.ofF (own := RX1) (index := 15) (ci := 1) (k := 6) (C := RX2) (T := TX2) (N := 19) tyX2 rfl in_X2 tyX2_ok nmX2 (by decide) rfl rfl rfl q333
theorem gf_X1_19 : xGet RX1 19 1 7 := xGet.of (own := RX1) (index := 19) (ci := 1) (k := 7) (C := RX2) (T := TX2) (N := 19) rfl in_X2 (by decide) q334
theorem pf_X1_19 : xPut RX1 19 1 7 (.object "java/lang/String") true := xPut.ofF (own := RX1) (index := 19) (ci := 1) (k := 7) (C := RX2) (T := TX2) (N := 19) tyX2 rfl in_X2 tyX2_ok nmX2 (by decide) rfl rfl rfl q334
theorem gf_X1_22 : xGet RX1 22 1 8 := xGet.of (own := RX1) (index := 22) (ci := 1) (k := 8) (C := RX2) (T := TX2) (N := 19) rfl in_X2 (by decide) q335
theorem pf_X1_22 : xPut RX1 22 1 8 (.object "TinFen$Wrong") true := xPut.ofF (own := RX1) (index := 22) (ci := 1) (k := 8) (C := RX2) (T := TX2) (N := 19) tyX2 rfl in_X2 tyX2_ok nmX2 (by decide) rfl rfl rfl q335
theorem gf_X7_7 : xGet RX7 7 6 0 := xGet.of (own := RX7) (index := 7) (ci := 6) (k := 0) (C := RX7) (T := TX7) (N := 2) rfl in_X7 (by decide) q443
theorem pf_X7_7 {ini : Bool} : xPut RX7 7 6 0 (.object "java/lang/Object") ini := xPut.of (own := RX7) (index := 7) (ci := 6) (k := 0) (C := RX7) (T := TX7) (N := 2) tyX7 rfl in_X7 tyX7_ok nmX7 (by decide) rfl rfl q443
theorem gf_X7_13 : xGet RX7 13 6 1 := xGet.of (own := RX7) (index := 13) (ci := 6) (k := 1) (C := RX7) (T := TX7) (N := 2) rfl in_X7 (by decide) q445
theorem pf_X7_13 {ini : Bool} : xPut RX7 13 6 1 (.int) ini := xPut.of (own := RX7) (index := 13) (ci := 6) (k := 1) (C := RX7) (T := TX7) (N := 2) tyX7 rfl in_X7 tyX7_ok nmX7 (by decide) rfl rfl q445
theorem gf_X11_7 : xGet RX11 7 10 0 := xGet.of (own := RX11) (index := 7) (ci := 10) (k := 0) (C := RX11) (T := TX11) (N := 7) rfl in_X11 (by decide) q1005
theorem pf_X11_7 : xPut RX11 7 10 0 (.int) true := xPut.ofF (own := RX11) (index := 7) (ci := 10) (k := 0) (C := RX11) (T := TX11) (N := 7) tyX11 rfl in_X11 tyX11_ok nmX11 (by decide) rfl rfl rfl q1005
theorem gf_X0_162 : xGet RX0 162 2 6 := xGet.ofN (own := RX0) (index := 162) (ci := 2) (k := 6) (C := RX3) (T := TX3) (N := 8) rfl in_X3 (by decide) q259
theorem pf_X0_162 {ini : Bool} : xPut RX0 162 2 6 (.int) ini := xPut.ofN (own := RX0) (index := 162) (ci := 2) (k := 6) (C := RX3) (T := TX3) (N := 8) tyX3 rfl in_X3 tyX3_ok nmX3 (by decide) rfl rfl q259
theorem gf_X0_165 : xGet RX0 165 2 7 := xGet.ofN (own := RX0) (index := 165) (ci := 2) (k := 7) (C := RX3) (T := TX3) (N := 8) rfl in_X3 (by decide) q261
theorem pf_X0_165 {ini : Bool} : xPut RX0 165 2 7 (.int) ini := xPut.ofN (own := RX0) (index := 165) (ci := 2) (k := 7) (C := RX3) (T := TX3) (N := 8) tyX3 rfl in_X3 tyX3_ok nmX3 (by decide) rfl rfl q261
theorem gf_X0_151 : xGet RX0 151 1 9 := xGet.ofN (own := RX0) (index := 151) (ci := 1) (k := 9) (C := RX2) (T := TX2) (N := 19) rfl in_X2 (by decide) q303
theorem pf_X0_151 {ini : Bool} : xPut RX0 151 1 9 (.int) ini := xPut.ofN (own := RX0) (index := 151) (ci := 1) (k := 9) (C := RX2) (T := TX2) (N := 19) tyX2 rfl in_X2 tyX2_ok nmX2 (by decide) rfl rfl q303
theorem gf_X0_189 : xGet RX0 189 1 10 := xGet.ofN (own := RX0) (index := 189) (ci := 1) (k := 10) (C := RX2) (T := TX2) (N := 19) rfl in_X2 (by decide) q305
theorem pf_X0_189 {ini : Bool} : xPut RX0 189 1 10 (.int) ini := xPut.ofN (own := RX0) (index := 189) (ci := 1) (k := 10) (C := RX2) (T := TX2) (N := 19) tyX2 rfl in_X2 tyX2_ok nmX2 (by decide) rfl rfl q305
theorem gf_X0_190 : xGet RX0 190 1 11 := xGet.ofN (own := RX0) (index := 190) (ci := 1) (k := 11) (C := RX2) (T := TX2) (N := 19) rfl in_X2 (by decide) q307
theorem pf_X0_190 {ini : Bool} : xPut RX0 190 1 11 (.int) ini := xPut.ofN (own := RX0) (index := 190) (ci := 1) (k := 11) (C := RX2) (T := TX2) (N := 19) tyX2 rfl in_X2 tyX2_ok nmX2 (by decide) rfl rfl q307
theorem gf_X0_292 : xGet RX0 292 1 14 := xGet.ofN (own := RX0) (index := 292) (ci := 1) (k := 14) (C := RX2) (T := TX2) (N := 19) rfl in_X2 (by decide) q311
theorem gf_X0_203 : xGet RX0 203 1 15 := xGet.ofN (own := RX0) (index := 203) (ci := 1) (k := 15) (C := RX2) (T := TX2) (N := 19) rfl in_X2 (by decide) q313
theorem gf_X0_158 : xGet RX0 158 1 0 := xGet.ofS (own := RX0) (index := 158) (ci := 1) (k := 0) (C := RX2) (T := TX2) (N := 19) (ref := "TinFen$Reader") rfl in_X2 (by decide) q318 q319
theorem gf_X0_234 : xGet RX0 234 5 1 := xGet.of (own := RX0) (index := 234) (ci := 5) (k := 1) (C := RX6) (T := TX6) (N := 10) rfl in_X6 (by decide) q390
theorem gf_X0_241 : xGet RX0 241 5 2 := xGet.of (own := RX0) (index := 241) (ci := 5) (k := 2) (C := RX6) (T := TX6) (N := 10) rfl in_X6 (by decide) q393
theorem gf_X0_193 : xGet RX0 193 5 3 := xGet.of (own := RX0) (index := 193) (ci := 5) (k := 3) (C := RX6) (T := TX6) (N := 10) rfl in_X6 (by decide) q395
theorem gf_X0_138 : xGet RX0 138 5 4 := xGet.ofN (own := RX0) (index := 138) (ci := 5) (k := 4) (C := RX6) (T := TX6) (N := 10) rfl in_X6 (by decide) q398
theorem pf_X0_138 {ini : Bool} : xPut RX0 138 5 4 (.int) ini := xPut.ofN (own := RX0) (index := 138) (ci := 5) (k := 4) (C := RX6) (T := TX6) (N := 10) tyX6 rfl in_X6 tyX6_ok nmX6 (by decide) rfl rfl q398
theorem gf_X0_141 : xGet RX0 141 5 5 := xGet.ofN (own := RX0) (index := 141) (ci := 5) (k := 5) (C := RX6) (T := TX6) (N := 10) rfl in_X6 (by decide) q401
theorem pf_X0_141 {ini : Bool} : xPut RX0 141 5 5 (.int) ini := xPut.ofN (own := RX0) (index := 141) (ci := 5) (k := 5) (C := RX6) (T := TX6) (N := 10) tyX6 rfl in_X6 tyX6_ok nmX6 (by decide) rfl rfl q401
theorem gf_X0_206 : xGet RX0 206 5 6 := xGet.ofN (own := RX0) (index := 206) (ci := 5) (k := 6) (C := RX6) (T := TX6) (N := 10) rfl in_X6 (by decide) q404
theorem pf_X0_206 {ini : Bool} : xPut RX0 206 5 6 (.int) ini := xPut.ofN (own := RX0) (index := 206) (ci := 5) (k := 6) (C := RX6) (T := TX6) (N := 10) tyX6 rfl in_X6 tyX6_ok nmX6 (by decide) rfl rfl q404
theorem gf_X0_144 : xGet RX0 144 5 7 := xGet.ofN (own := RX0) (index := 144) (ci := 5) (k := 7) (C := RX6) (T := TX6) (N := 10) rfl in_X6 (by decide) q407
theorem pf_X0_144 {ini : Bool} : xPut RX0 144 5 7 (.int) ini := xPut.ofN (own := RX0) (index := 144) (ci := 5) (k := 7) (C := RX6) (T := TX6) (N := 10) tyX6 rfl in_X6 tyX6_ok nmX6 (by decide) rfl rfl q407
theorem gf_X0_209 : xGet RX0 209 5 8 := xGet.ofN (own := RX0) (index := 209) (ci := 5) (k := 8) (C := RX6) (T := TX6) (N := 10) rfl in_X6 (by decide) q410
theorem pf_X0_209 {ini : Bool} : xPut RX0 209 5 8 (.int) ini := xPut.ofN (own := RX0) (index := 209) (ci := 5) (k := 8) (C := RX6) (T := TX6) (N := 10) tyX6 rfl in_X6 tyX6_ok nmX6 (by decide) rfl rfl q410
theorem gf_X0_212 : xGet RX0 212 5 9 := xGet.ofN (own := RX0) (index := 212) (ci := 5) (k := 9) (C := RX6) (T := TX6) (N := 10) rfl in_X6 (by decide) q412
theorem pf_X0_212 {ini : Bool} : xPut RX0 212 5 9 (.int) ini := xPut.ofN (own := RX0) (index := 212) (ci := 5) (k := 9) (C := RX6) (T := TX6) (N := 10) tyX6 rfl in_X6 tyX6_ok nmX6 (by decide) rfl rfl q412
theorem gf_X0_123 : xGet RX0 123 6 0 := xGet.ofN (own := RX0) (index := 123) (ci := 6) (k := 0) (C := RX7) (T := TX7) (N := 2) rfl in_X7 (by decide) q444
theorem pf_X0_123 {ini : Bool} : xPut RX0 123 6 0 (.object "java/lang/Object") ini := xPut.ofN (own := RX0) (index := 123) (ci := 6) (k := 0) (C := RX7) (T := TX7) (N := 2) tyX7 rfl in_X7 tyX7_ok nmX7 (by decide) rfl rfl q444
theorem gf_X0_127 : xGet RX0 127 6 1 := xGet.ofN (own := RX0) (index := 127) (ci := 6) (k := 1) (C := RX7) (T := TX7) (N := 2) rfl in_X7 (by decide) q446
theorem pf_X0_127 {ini : Bool} : xPut RX0 127 6 1 (.int) ini := xPut.ofN (own := RX0) (index := 127) (ci := 6) (k := 1) (C := RX7) (T := TX7) (N := 2) tyX7 rfl in_X7 tyX7_ok nmX7 (by decide) rfl rfl q446
theorem gf_X0_15 : xGet RX0 15 0 0 := xGet.of (own := RX0) (index := 15) (ci := 0) (k := 0) (C := RX0) (T := TX0) (N := 25) rfl in_X0 (by decide) q452
theorem pf_X0_15 : xPut RX0 15 0 0 (.array (.object "TinFen$Tray")) true := xPut.ofF (own := RX0) (index := 15) (ci := 0) (k := 0) (C := RX0) (T := TX0) (N := 25) tyX0 rfl in_X0 tyX0_ok nmX0 (by decide) rfl rfl rfl q452
theorem gf_X0_27 : xGet RX0 27 0 1 := xGet.of (own := RX0) (index := 27) (ci := 0) (k := 1) (C := RX0) (T := TX0) (N := 25) rfl in_X0 (by decide) q453
theorem pf_X0_27 : xPut RX0 27 0 1 (.object "TinFen$Reader") true := xPut.ofF (own := RX0) (index := 27) (ci := 0) (k := 1) (C := RX0) (T := TX0) (N := 25) tyX0 rfl in_X0 tyX0_ok nmX0 (by decide) rfl rfl rfl q453
theorem gf_X0_34 : xGet RX0 34 0 2 := xGet.of (own := RX0) (index := 34) (ci := 0) (k := 2) (C := RX0) (T := TX0) (N := 25) rfl in_X0 (by decide) q454
theorem pf_X0_34 {ini : Bool} : xPut RX0 34 0 2 (.object "TinFen$Fen") ini := xPut.of (own := RX0) (index := 34) (ci := 0) (k := 2) (C := RX0) (T := TX0) (N := 25) tyX0 rfl in_X0 tyX0_ok nmX0 (by decide) rfl rfl q454
theorem gf_X0_178 : xGet RX0 178 0 3 := xGet.of (own := RX0) (index := 178) (ci := 0) (k := 3) (C := RX0) (T := TX0) (N := 25) rfl in_X0 (by decide) q455
theorem pf_X0_178 {ini : Bool} : xPut RX0 178 0 3 (.array (.object "TinFen$Step")) ini := xPut.of (own := RX0) (index := 178) (ci := 0) (k := 3) (C := RX0) (T := TX0) (N := 25) tyX0 rfl in_X0 tyX0_ok nmX0 (by decide) rfl rfl q455
theorem gf_X0_182 : xGet RX0 182 0 4 := xGet.of (own := RX0) (index := 182) (ci := 0) (k := 4) (C := RX0) (T := TX0) (N := 25) rfl in_X0 (by decide) q456
theorem pf_X0_182 {ini : Bool} : xPut RX0 182 0 4 (.int) ini := xPut.of (own := RX0) (index := 182) (ci := 0) (k := 4) (C := RX0) (T := TX0) (N := 25) tyX0 rfl in_X0 tyX0_ok nmX0 (by decide) rfl rfl q456
theorem gf_X0_83 : xGet RX0 83 0 5 := xGet.of (own := RX0) (index := 83) (ci := 0) (k := 5) (C := RX0) (T := TX0) (N := 25) rfl in_X0 (by decide) q457
theorem pf_X0_83 {ini : Bool} : xPut RX0 83 0 5 (.int) ini := xPut.of (own := RX0) (index := 83) (ci := 0) (k := 5) (C := RX0) (T := TX0) (N := 25) tyX0 rfl in_X0 tyX0_ok nmX0 (by decide) rfl rfl q457
theorem gf_X0_38 : xGet RX0 38 0 6 := xGet.of (own := RX0) (index := 38) (ci := 0) (k := 6) (C := RX0) (T := TX0) (N := 25) rfl in_X0 (by decide) q458
theorem pf_X0_38 {ini : Bool} : xPut RX0 38 0 6 (.int) ini := xPut.of (own := RX0) (index := 38) (ci := 0) (k := 6) (C := RX0) (T := TX0) (N := 25) tyX0 rfl in_X0 tyX0_ok nmX0 (by decide) rfl rfl q458
theorem gf_X0_42 : xGet RX0 42 0 7 := xGet.of (own := RX0) (index := 42) (ci := 0) (k := 7) (C := RX0) (T := TX0) (N := 25) rfl in_X0 (by decide) q459
theorem pf_X0_42 {ini : Bool} : xPut RX0 42 0 7 (.int) ini := xPut.of (own := RX0) (index := 42) (ci := 0) (k := 7) (C := RX0) (T := TX0) (N := 25) tyX0 rfl in_X0 tyX0_ok nmX0 (by decide) rfl rfl q459
theorem gf_X0_86 : xGet RX0 86 0 8 := xGet.of (own := RX0) (index := 86) (ci := 0) (k := 8) (C := RX0) (T := TX0) (N := 25) rfl in_X0 (by decide) q460
theorem pf_X0_86 {ini : Bool} : xPut RX0 86 0 8 (.long) ini := xPut.of (own := RX0) (index := 86) (ci := 0) (k := 8) (C := RX0) (T := TX0) (N := 25) tyX0 rfl in_X0 tyX0_ok nmX0 (by decide) rfl rfl q460
theorem gf_X0_45 : xGet RX0 45 0 9 := xGet.of (own := RX0) (index := 45) (ci := 0) (k := 9) (C := RX0) (T := TX0) (N := 25) rfl in_X0 (by decide) q461
theorem pf_X0_45 {ini : Bool} : xPut RX0 45 0 9 (.long) ini := xPut.of (own := RX0) (index := 45) (ci := 0) (k := 9) (C := RX0) (T := TX0) (N := 25) tyX0 rfl in_X0 tyX0_ok nmX0 (by decide) rfl rfl q461
theorem gf_X0_49 : xGet RX0 49 0 10 := xGet.of (own := RX0) (index := 49) (ci := 0) (k := 10) (C := RX0) (T := TX0) (N := 25) rfl in_X0 (by decide) q462
theorem pf_X0_49 : xPut RX0 49 0 10 (.array (.int)) true := xPut.ofF (own := RX0) (index := 49) (ci := 0) (k := 10) (C := RX0) (T := TX0) (N := 25) tyX0 rfl in_X0 tyX0_ok nmX0 (by decide) rfl rfl rfl q462
theorem gf_X0_53 : xGet RX0 53 0 11 := xGet.of (own := RX0) (index := 53) (ci := 0) (k := 11) (C := RX0) (T := TX0) (N := 25) rfl in_X0 (by decide) q463
theorem pf_X0_53 : xPut RX0 53 0 11 (.array (.int)) true := xPut.ofF (own := RX0) (index := 53) (ci := 0) (k := 11) (C := RX0) (T := TX0) (N := 25) tyX0 rfl in_X0 tyX0_ok nmX0 (by decide) rfl rfl rfl q463
theorem gf_X0_56 : xGet RX0 56 0 12 := xGet.of (own := RX0) (index := 56) (ci := 0) (k := 12) (C := RX0) (T := TX0) (N := 25) rfl in_X0 (by decide) q464
theorem pf_X0_56 : xPut RX0 56 0 12 (.array (.int)) true := xPut.ofF (own := RX0) (index := 56) (ci := 0) (k := 12) (C := RX0) (T := TX0) (N := 25) tyX0 rfl in_X0 tyX0_ok nmX0 (by decide) rfl rfl rfl q464
theorem gf_X0_322 : xGet RX0 322 0 13 := xGet.of (own := RX0) (index := 322) (ci := 0) (k := 13) (C := RX0) (T := TX0) (N := 25) rfl in_X0 (by decide) q465
theorem pf_X0_322 {ini : Bool} : xPut RX0 322 0 13 (.int) ini := xPut.of (own := RX0) (index := 322) (ci := 0) (k := 13) (C := RX0) (T := TX0) (N := 25) tyX0 rfl in_X0 tyX0_ok nmX0 (by decide) rfl rfl q465
theorem gf_X0_59 : xGet RX0 59 0 14 := xGet.of (own := RX0) (index := 59) (ci := 0) (k := 14) (C := RX0) (T := TX0) (N := 25) rfl in_X0 (by decide) q466
theorem pf_X0_59 : xPut RX0 59 0 14 (.array (.int)) true := xPut.ofF (own := RX0) (index := 59) (ci := 0) (k := 14) (C := RX0) (T := TX0) (N := 25) tyX0 rfl in_X0 tyX0_ok nmX0 (by decide) rfl rfl rfl q466
theorem gf_X0_62 : xGet RX0 62 0 15 := xGet.of (own := RX0) (index := 62) (ci := 0) (k := 15) (C := RX0) (T := TX0) (N := 25) rfl in_X0 (by decide) q467
theorem pf_X0_62 : xPut RX0 62 0 15 (.array (.object "TinFen$Fen")) true := xPut.ofF (own := RX0) (index := 62) (ci := 0) (k := 15) (C := RX0) (T := TX0) (N := 25) tyX0 rfl in_X0 tyX0_ok nmX0 (by decide) rfl rfl rfl q467
theorem gf_X0_388 : xGet RX0 388 0 16 := xGet.of (own := RX0) (index := 388) (ci := 0) (k := 16) (C := RX0) (T := TX0) (N := 25) rfl in_X0 (by decide) q468
theorem pf_X0_388 {ini : Bool} : xPut RX0 388 0 16 (.int) ini := xPut.of (own := RX0) (index := 388) (ci := 0) (k := 16) (C := RX0) (T := TX0) (N := 25) tyX0 rfl in_X0 tyX0_ok nmX0 (by decide) rfl rfl q468
theorem gf_X0_66 : xGet RX0 66 0 17 := xGet.of (own := RX0) (index := 66) (ci := 0) (k := 17) (C := RX0) (T := TX0) (N := 25) rfl in_X0 (by decide) q469
theorem pf_X0_66 : xPut RX0 66 0 17 (.array (.long)) true := xPut.ofF (own := RX0) (index := 66) (ci := 0) (k := 17) (C := RX0) (T := TX0) (N := 25) tyX0 rfl in_X0 tyX0_ok nmX0 (by decide) rfl rfl rfl q469
theorem gf_X0_419 : xGet RX0 419 0 18 := xGet.of (own := RX0) (index := 419) (ci := 0) (k := 18) (C := RX0) (T := TX0) (N := 25) rfl in_X0 (by decide) q470
theorem pf_X0_419 {ini : Bool} : xPut RX0 419 0 18 (.int) ini := xPut.of (own := RX0) (index := 419) (ci := 0) (k := 18) (C := RX0) (T := TX0) (N := 25) tyX0 rfl in_X0 tyX0_ok nmX0 (by decide) rfl rfl q470
theorem gf_X0_457 : xGet RX0 457 0 19 := xGet.of (own := RX0) (index := 457) (ci := 0) (k := 19) (C := RX0) (T := TX0) (N := 25) rfl in_X0 (by decide) q471
theorem pf_X0_457 {ini : Bool} : xPut RX0 457 0 19 (.int) ini := xPut.of (own := RX0) (index := 457) (ci := 0) (k := 19) (C := RX0) (T := TX0) (N := 25) tyX0 rfl in_X0 tyX0_ok nmX0 (by decide) rfl rfl q471
theorem gf_X0_70 : xGet RX0 70 0 20 := xGet.of (own := RX0) (index := 70) (ci := 0) (k := 20) (C := RX0) (T := TX0) (N := 25) rfl in_X0 (by decide) q472
theorem pf_X0_70 : xPut RX0 70 0 20 (.array (.int)) true := xPut.ofF (own := RX0) (index := 70) (ci := 0) (k := 20) (C := RX0) (T := TX0) (N := 25) tyX0 rfl in_X0 tyX0_ok nmX0 (by decide) rfl rfl rfl q472
theorem gf_X0_73 : xGet RX0 73 0 21 := xGet.of (own := RX0) (index := 73) (ci := 0) (k := 21) (C := RX0) (T := TX0) (N := 25) rfl in_X0 (by decide) q473
theorem pf_X0_73 : xPut RX0 73 0 21 (.array (.int)) true := xPut.ofF (own := RX0) (index := 73) (ci := 0) (k := 21) (C := RX0) (T := TX0) (N := 25) tyX0 rfl in_X0 tyX0_ok nmX0 (by decide) rfl rfl rfl q473
theorem gf_X0_478 : xGet RX0 478 0 22 := xGet.of (own := RX0) (index := 478) (ci := 0) (k := 22) (C := RX0) (T := TX0) (N := 25) rfl in_X0 (by decide) q474
theorem pf_X0_478 {ini : Bool} : xPut RX0 478 0 22 (.boolean) ini := xPut.of (own := RX0) (index := 478) (ci := 0) (k := 22) (C := RX0) (T := TX0) (N := 25) tyX0 rfl in_X0 tyX0_ok nmX0 (by decide) rfl rfl q474
theorem gf_X0_78 : xGet RX0 78 0 23 := xGet.of (own := RX0) (index := 78) (ci := 0) (k := 23) (C := RX0) (T := TX0) (N := 25) rfl in_X0 (by decide) q475
theorem pf_X0_78 : xPut RX0 78 0 23 (.array (.object "TinFen$Kept")) true := xPut.ofF (own := RX0) (index := 78) (ci := 0) (k := 23) (C := RX0) (T := TX0) (N := 25) tyX0 rfl in_X0 tyX0_ok nmX0 (by decide) rfl rfl rfl q475
theorem gf_X0_483 : xGet RX0 483 0 24 := xGet.of (own := RX0) (index := 483) (ci := 0) (k := 24) (C := RX0) (T := TX0) (N := 25) rfl in_X0 (by decide) q476
theorem pf_X0_483 {ini : Bool} : xPut RX0 483 0 24 (.int) ini := xPut.of (own := RX0) (index := 483) (ci := 0) (k := 24) (C := RX0) (T := TX0) (N := 25) tyX0 rfl in_X0 tyX0_ok nmX0 (by decide) rfl rfl q476
theorem gf_X0_245 : xGet RX0 245 8 1 := xGet.ofN (own := RX0) (index := 245) (ci := 8) (k := 1) (C := RX9) (T := TX9) (N := 4) rfl in_X9 (by decide) q863
theorem pf_X0_245 {ini : Bool} : xPut RX0 245 8 1 (.int) ini := xPut.ofN (own := RX0) (index := 245) (ci := 8) (k := 1) (C := RX9) (T := TX9) (N := 4) tyX9 rfl in_X9 tyX9_ok nmX9 (by decide) rfl rfl q863
theorem gf_X0_250 : xGet RX0 250 8 2 := xGet.ofN (own := RX0) (index := 250) (ci := 8) (k := 2) (C := RX9) (T := TX9) (N := 4) rfl in_X9 (by decide) q866
theorem pf_X0_250 {ini : Bool} : xPut RX0 250 8 2 (.int) ini := xPut.ofN (own := RX0) (index := 250) (ci := 8) (k := 2) (C := RX9) (T := TX9) (N := 4) tyX9 rfl in_X9 tyX9_ok nmX9 (by decide) rfl rfl q866
theorem gf_X0_253 : xGet RX0 253 8 3 := xGet.ofN (own := RX0) (index := 253) (ci := 8) (k := 3) (C := RX9) (T := TX9) (N := 4) rfl in_X9 (by decide) q869
theorem pf_X0_253 {ini : Bool} : xPut RX0 253 8 3 (.int) ini := xPut.ofN (own := RX0) (index := 253) (ci := 8) (k := 3) (C := RX9) (T := TX9) (N := 4) tyX9 rfl in_X9 tyX9_ok nmX9 (by decide) rfl rfl q869
theorem gf_X0_197 : xGet RX0 197 9 1 := xGet.of (own := RX0) (index := 197) (ci := 9) (k := 1) (C := RX10) (T := TX10) (N := 7) rfl in_X10 (by decide) q929
theorem gf_X0_259 : xGet RX0 259 9 2 := xGet.ofN (own := RX0) (index := 259) (ci := 9) (k := 2) (C := RX10) (T := TX10) (N := 7) rfl in_X10 (by decide) q932
theorem pf_X0_259 {ini : Bool} : xPut RX0 259 9 2 (.int) ini := xPut.ofN (own := RX0) (index := 259) (ci := 9) (k := 2) (C := RX10) (T := TX10) (N := 7) tyX10 rfl in_X10 tyX10_ok nmX10 (by decide) rfl rfl q932
theorem gf_X0_262 : xGet RX0 262 9 3 := xGet.ofN (own := RX0) (index := 262) (ci := 9) (k := 3) (C := RX10) (T := TX10) (N := 7) rfl in_X10 (by decide) q937
theorem pf_X0_262 {ini : Bool} : xPut RX0 262 9 3 (.int) ini := xPut.ofN (own := RX0) (index := 262) (ci := 9) (k := 3) (C := RX10) (T := TX10) (N := 7) tyX10 rfl in_X10 tyX10_ok nmX10 (by decide) rfl rfl q937
theorem gf_X0_268 : xGet RX0 268 9 4 := xGet.ofN (own := RX0) (index := 268) (ci := 9) (k := 4) (C := RX10) (T := TX10) (N := 7) rfl in_X10 (by decide) q940
theorem pf_X0_268 {ini : Bool} : xPut RX0 268 9 4 (.int) ini := xPut.ofN (own := RX0) (index := 268) (ci := 9) (k := 4) (C := RX10) (T := TX10) (N := 7) tyX10 rfl in_X10 tyX10_ok nmX10 (by decide) rfl rfl q940
theorem gf_X0_271 : xGet RX0 271 9 5 := xGet.ofN (own := RX0) (index := 271) (ci := 9) (k := 5) (C := RX10) (T := TX10) (N := 7) rfl in_X10 (by decide) q943
theorem pf_X0_271 {ini : Bool} : xPut RX0 271 9 5 (.int) ini := xPut.ofN (own := RX0) (index := 271) (ci := 9) (k := 5) (C := RX10) (T := TX10) (N := 7) tyX10 rfl in_X10 tyX10_ok nmX10 (by decide) rfl rfl q943
theorem gf_X0_285 : xGet RX0 285 9 6 := xGet.ofN (own := RX0) (index := 285) (ci := 9) (k := 6) (C := RX10) (T := TX10) (N := 7) rfl in_X10 (by decide) q947
theorem pf_X0_285 {ini : Bool} : xPut RX0 285 9 6 (.boolean) ini := xPut.ofN (own := RX0) (index := 285) (ci := 9) (k := 6) (C := RX10) (T := TX10) (N := 7) tyX10 rfl in_X10 tyX10_ok nmX10 (by decide) rfl rfl q947
theorem gf_X0_429 : xGet RX0 429 10 0 := xGet.of (own := RX0) (index := 429) (ci := 10) (k := 0) (C := RX11) (T := TX11) (N := 7) rfl in_X11 (by decide) q1007
theorem gf_X0_432 : xGet RX0 432 10 1 := xGet.ofN (own := RX0) (index := 432) (ci := 10) (k := 1) (C := RX11) (T := TX11) (N := 7) rfl in_X11 (by decide) q1009
theorem pf_X0_432 {ini : Bool} : xPut RX0 432 10 1 (.int) ini := xPut.ofN (own := RX0) (index := 432) (ci := 10) (k := 1) (C := RX11) (T := TX11) (N := 7) tyX11 rfl in_X11 tyX11_ok nmX11 (by decide) rfl rfl q1009
theorem gf_X0_435 : xGet RX0 435 10 2 := xGet.ofN (own := RX0) (index := 435) (ci := 10) (k := 2) (C := RX11) (T := TX11) (N := 7) rfl in_X11 (by decide) q1011
theorem pf_X0_435 {ini : Bool} : xPut RX0 435 10 2 (.int) ini := xPut.ofN (own := RX0) (index := 435) (ci := 10) (k := 2) (C := RX11) (T := TX11) (N := 7) tyX11 rfl in_X11 tyX11_ok nmX11 (by decide) rfl rfl q1011
theorem gf_X0_448 : xGet RX0 448 10 3 := xGet.ofN (own := RX0) (index := 448) (ci := 10) (k := 3) (C := RX11) (T := TX11) (N := 7) rfl in_X11 (by decide) q1013
theorem pf_X0_448 {ini : Bool} : xPut RX0 448 10 3 (.int) ini := xPut.ofN (own := RX0) (index := 448) (ci := 10) (k := 3) (C := RX11) (T := TX11) (N := 7) tyX11 rfl in_X11 tyX11_ok nmX11 (by decide) rfl rfl q1013
theorem gf_X0_451 : xGet RX0 451 10 4 := xGet.ofN (own := RX0) (index := 451) (ci := 10) (k := 4) (C := RX11) (T := TX11) (N := 7) rfl in_X11 (by decide) q1015
theorem pf_X0_451 {ini : Bool} : xPut RX0 451 10 4 (.int) ini := xPut.ofN (own := RX0) (index := 451) (ci := 10) (k := 4) (C := RX11) (T := TX11) (N := 7) tyX11 rfl in_X11 tyX11_ok nmX11 (by decide) rfl rfl q1015
theorem gf_X0_454 : xGet RX0 454 10 5 := xGet.ofN (own := RX0) (index := 454) (ci := 10) (k := 5) (C := RX11) (T := TX11) (N := 7) rfl in_X11 (by decide) q1017
theorem pf_X0_454 {ini : Bool} : xPut RX0 454 10 5 (.int) ini := xPut.ofN (own := RX0) (index := 454) (ci := 10) (k := 5) (C := RX11) (T := TX11) (N := 7) tyX11 rfl in_X11 tyX11_ok nmX11 (by decide) rfl rfl q1017
theorem gf_X0_445 : xGet RX0 445 10 6 := xGet.ofN (own := RX0) (index := 445) (ci := 10) (k := 6) (C := RX11) (T := TX11) (N := 7) rfl in_X11 (by decide) q1018
theorem pf_X0_445 {ini : Bool} : xPut RX0 445 10 6 (.int) ini := xPut.ofN (own := RX0) (index := 445) (ci := 10) (k := 6) (C := RX11) (T := TX11) (N := 7) tyX11 rfl in_X11 tyX11_ok nmX11 (by decide) rfl rfl q1018
theorem gf_X0_489 : xGet RX0 489 11 0 := xGet.of (own := RX0) (index := 489) (ci := 11) (k := 0) (C := RX12) (T := TX12) (N := 3) rfl in_X12 (by decide) q1467
theorem gf_X0_490 : xGet RX0 490 11 1 := xGet.of (own := RX0) (index := 490) (ci := 11) (k := 1) (C := RX12) (T := TX12) (N := 3) rfl in_X12 (by decide) q1469
theorem gf_X0_491 : xGet RX0 491 11 2 := xGet.of (own := RX0) (index := 491) (ci := 11) (k := 2) (C := RX12) (T := TX12) (N := 3) rfl in_X12 (by decide) q1471
theorem gf_X5_19 : xGet RX5 19 9 3 := xGet.ofN (own := RX5) (index := 19) (ci := 9) (k := 3) (C := RX10) (T := TX10) (N := 7) rfl in_X10 (by decide) q934
theorem pf_X5_19 {ini : Bool} : xPut RX5 19 9 3 (.int) ini := xPut.ofN (own := RX5) (index := 19) (ci := 9) (k := 3) (C := RX10) (T := TX10) (N := 7) tyX10 rfl in_X10 tyX10_ok nmX10 (by decide) rfl rfl q934
theorem gf_X5_13 : xGet RX5 13 9 6 := xGet.ofN (own := RX5) (index := 13) (ci := 9) (k := 6) (C := RX10) (T := TX10) (N := 7) rfl in_X10 (by decide) q944
theorem pf_X5_13 {ini : Bool} : xPut RX5 13 9 6 (.boolean) ini := xPut.ofN (own := RX5) (index := 13) (ci := 9) (k := 6) (C := RX10) (T := TX10) (N := 7) tyX10 rfl in_X10 tyX10_ok nmX10 (by decide) rfl rfl q944
theorem gf_X8_73 : xGet RX8 73 7 0 := xGet.of (own := RX8) (index := 73) (ci := 7) (k := 0) (C := RX8) (T := TX8) (N := 47) rfl in_X8 (by decide) q1493
theorem pf_X8_73 {ini : Bool} : xPut RX8 73 7 0 (.int) ini := xPut.of (own := RX8) (index := 73) (ci := 7) (k := 0) (C := RX8) (T := TX8) (N := 47) tyX8 rfl in_X8 tyX8_ok nmX8 (by decide) rfl rfl q1493
theorem gf_X8_70 : xGet RX8 70 7 1 := xGet.of (own := RX8) (index := 70) (ci := 7) (k := 1) (C := RX8) (T := TX8) (N := 47) rfl in_X8 (by decide) q1494
theorem pf_X8_70 {ini : Bool} : xPut RX8 70 7 1 (.int) ini := xPut.of (own := RX8) (index := 70) (ci := 7) (k := 1) (C := RX8) (T := TX8) (N := 47) tyX8 rfl in_X8 tyX8_ok nmX8 (by decide) rfl rfl q1494
theorem gf_X8_76 : xGet RX8 76 7 2 := xGet.of (own := RX8) (index := 76) (ci := 7) (k := 2) (C := RX8) (T := TX8) (N := 47) rfl in_X8 (by decide) q1495
theorem pf_X8_76 {ini : Bool} : xPut RX8 76 7 2 (.long) ini := xPut.of (own := RX8) (index := 76) (ci := 7) (k := 2) (C := RX8) (T := TX8) (N := 47) tyX8 rfl in_X8 tyX8_ok nmX8 (by decide) rfl rfl q1495
theorem gf_X8_7 : xGet RX8 7 7 3 := xGet.of (own := RX8) (index := 7) (ci := 7) (k := 3) (C := RX8) (T := TX8) (N := 47) rfl in_X8 (by decide) q1496
theorem pf_X8_7 {ini : Bool} : xPut RX8 7 7 3 (.long) ini := xPut.of (own := RX8) (index := 7) (ci := 7) (k := 3) (C := RX8) (T := TX8) (N := 47) tyX8 rfl in_X8 tyX8_ok nmX8 (by decide) rfl rfl q1496
theorem gf_X8_13 : xGet RX8 13 7 4 := xGet.of (own := RX8) (index := 13) (ci := 7) (k := 4) (C := RX8) (T := TX8) (N := 47) rfl in_X8 (by decide) q1497
theorem pf_X8_13 : xPut RX8 13 7 4 (.array (.int)) true := xPut.ofF (own := RX8) (index := 13) (ci := 7) (k := 4) (C := RX8) (T := TX8) (N := 47) tyX8 rfl in_X8 tyX8_ok nmX8 (by decide) rfl rfl rfl q1497
theorem gf_X8_17 : xGet RX8 17 7 5 := xGet.of (own := RX8) (index := 17) (ci := 7) (k := 5) (C := RX8) (T := TX8) (N := 47) rfl in_X8 (by decide) q1498
theorem pf_X8_17 : xPut RX8 17 7 5 (.array (.int)) true := xPut.ofF (own := RX8) (index := 17) (ci := 7) (k := 5) (C := RX8) (T := TX8) (N := 47) tyX8 rfl in_X8 tyX8_ok nmX8 (by decide) rfl rfl rfl q1498
theorem gf_X8_20 : xGet RX8 20 7 6 := xGet.of (own := RX8) (index := 20) (ci := 7) (k := 6) (C := RX8) (T := TX8) (N := 47) rfl in_X8 (by decide) q1499
theorem pf_X8_20 : xPut RX8 20 7 6 (.array (.long)) true := xPut.ofF (own := RX8) (index := 20) (ci := 7) (k := 6) (C := RX8) (T := TX8) (N := 47) tyX8 rfl in_X8 tyX8_ok nmX8 (by decide) rfl rfl rfl q1499
theorem gf_X8_24 : xGet RX8 24 7 7 := xGet.of (own := RX8) (index := 24) (ci := 7) (k := 7) (C := RX8) (T := TX8) (N := 47) rfl in_X8 (by decide) q1500
theorem pf_X8_24 : xPut RX8 24 7 7 (.array (.byte)) true := xPut.ofF (own := RX8) (index := 24) (ci := 7) (k := 7) (C := RX8) (T := TX8) (N := 47) tyX8 rfl in_X8 tyX8_ok nmX8 (by decide) rfl rfl rfl q1500
theorem gf_X8_218 : xGet RX8 218 7 8 := xGet.of (own := RX8) (index := 218) (ci := 7) (k := 8) (C := RX8) (T := TX8) (N := 47) rfl in_X8 (by decide) q1501
theorem pf_X8_218 {ini : Bool} : xPut RX8 218 7 8 (.int) ini := xPut.of (own := RX8) (index := 218) (ci := 7) (k := 8) (C := RX8) (T := TX8) (N := 47) tyX8 rfl in_X8 tyX8_ok nmX8 (by decide) rfl rfl q1501
theorem gf_X8_113 : xGet RX8 113 7 9 := xGet.of (own := RX8) (index := 113) (ci := 7) (k := 9) (C := RX8) (T := TX8) (N := 47) rfl in_X8 (by decide) q1502
theorem pf_X8_113 {ini : Bool} : xPut RX8 113 7 9 (.int) ini := xPut.of (own := RX8) (index := 113) (ci := 7) (k := 9) (C := RX8) (T := TX8) (N := 47) tyX8 rfl in_X8 tyX8_ok nmX8 (by decide) rfl rfl q1502
theorem gf_X8_28 : xGet RX8 28 7 10 := xGet.of (own := RX8) (index := 28) (ci := 7) (k := 10) (C := RX8) (T := TX8) (N := 47) rfl in_X8 (by decide) q1503
theorem pf_X8_28 {ini : Bool} : xPut RX8 28 7 10 (.int) ini := xPut.of (own := RX8) (index := 28) (ci := 7) (k := 10) (C := RX8) (T := TX8) (N := 47) tyX8 rfl in_X8 tyX8_ok nmX8 (by decide) rfl rfl q1503
theorem gf_X8_32 : xGet RX8 32 7 11 := xGet.of (own := RX8) (index := 32) (ci := 7) (k := 11) (C := RX8) (T := TX8) (N := 47) rfl in_X8 (by decide) q1504
theorem pf_X8_32 {ini : Bool} : xPut RX8 32 7 11 (.int) ini := xPut.of (own := RX8) (index := 32) (ci := 7) (k := 11) (C := RX8) (T := TX8) (N := 47) tyX8 rfl in_X8 tyX8_ok nmX8 (by decide) rfl rfl q1504
theorem gf_X8_202 : xGet RX8 202 7 12 := xGet.of (own := RX8) (index := 202) (ci := 7) (k := 12) (C := RX8) (T := TX8) (N := 47) rfl in_X8 (by decide) q1505
theorem pf_X8_202 {ini : Bool} : xPut RX8 202 7 12 (.int) ini := xPut.of (own := RX8) (index := 202) (ci := 7) (k := 12) (C := RX8) (T := TX8) (N := 47) tyX8 rfl in_X8 tyX8_ok nmX8 (by decide) rfl rfl q1505
theorem gf_X8_205 : xGet RX8 205 7 13 := xGet.of (own := RX8) (index := 205) (ci := 7) (k := 13) (C := RX8) (T := TX8) (N := 47) rfl in_X8 (by decide) q1506
theorem pf_X8_205 {ini : Bool} : xPut RX8 205 7 13 (.int) ini := xPut.of (own := RX8) (index := 205) (ci := 7) (k := 13) (C := RX8) (T := TX8) (N := 47) tyX8 rfl in_X8 tyX8_ok nmX8 (by decide) rfl rfl q1506
theorem gf_X8_125 : xGet RX8 125 7 14 := xGet.of (own := RX8) (index := 125) (ci := 7) (k := 14) (C := RX8) (T := TX8) (N := 47) rfl in_X8 (by decide) q1507
theorem pf_X8_125 {ini : Bool} : xPut RX8 125 7 14 (.int) ini := xPut.of (own := RX8) (index := 125) (ci := 7) (k := 14) (C := RX8) (T := TX8) (N := 47) tyX8 rfl in_X8 tyX8_ok nmX8 (by decide) rfl rfl q1507
theorem gf_X8_119 : xGet RX8 119 7 15 := xGet.of (own := RX8) (index := 119) (ci := 7) (k := 15) (C := RX8) (T := TX8) (N := 47) rfl in_X8 (by decide) q1508
theorem pf_X8_119 {ini : Bool} : xPut RX8 119 7 15 (.int) ini := xPut.of (own := RX8) (index := 119) (ci := 7) (k := 15) (C := RX8) (T := TX8) (N := 47) tyX8 rfl in_X8 tyX8_ok nmX8 (by decide) rfl rfl q1508
theorem gf_X8_116 : xGet RX8 116 7 16 := xGet.of (own := RX8) (index := 116) (ci := 7) (k := 16) (C := RX8) (T := TX8) (N := 47) rfl in_X8 (by decide) q1509
theorem pf_X8_116 {ini : Bool} : xPut RX8 116 7 16 (.int) ini := xPut.of (own := RX8) (index := 116) (ci := 7) (k := 16) (C := RX8) (T := TX8) (N := 47) tyX8 rfl in_X8 tyX8_ok nmX8 (by decide) rfl rfl q1509
theorem gf_X8_144 : xGet RX8 144 7 17 := xGet.of (own := RX8) (index := 144) (ci := 7) (k := 17) (C := RX8) (T := TX8) (N := 47) rfl in_X8 (by decide) q1510
theorem pf_X8_144 {ini : Bool} : xPut RX8 144 7 17 (.int) ini := xPut.of (own := RX8) (index := 144) (ci := 7) (k := 17) (C := RX8) (T := TX8) (N := 47) tyX8 rfl in_X8 tyX8_ok nmX8 (by decide) rfl rfl q1510
theorem gf_X8_138 : xGet RX8 138 7 18 := xGet.of (own := RX8) (index := 138) (ci := 7) (k := 18) (C := RX8) (T := TX8) (N := 47) rfl in_X8 (by decide) q1511
theorem pf_X8_138 {ini : Bool} : xPut RX8 138 7 18 (.int) ini := xPut.of (own := RX8) (index := 138) (ci := 7) (k := 18) (C := RX8) (T := TX8) (N := 47) tyX8 rfl in_X8 tyX8_ok nmX8 (by decide) rfl rfl q1511
theorem gf_X8_131 : xGet RX8 131 7 19 := xGet.of (own := RX8) (index := 131) (ci := 7) (k := 19) (C := RX8) (T := TX8) (N := 47) rfl in_X8 (by decide) q1512
theorem pf_X8_131 {ini : Bool} : xPut RX8 131 7 19 (.long) ini := xPut.of (own := RX8) (index := 131) (ci := 7) (k := 19) (C := RX8) (T := TX8) (N := 47) tyX8 rfl in_X8 tyX8_ok nmX8 (by decide) rfl rfl q1512
theorem gf_X8_35 : xGet RX8 35 7 20 := xGet.of (own := RX8) (index := 35) (ci := 7) (k := 20) (C := RX8) (T := TX8) (N := 47) rfl in_X8 (by decide) q1513
theorem pf_X8_35 : xPut RX8 35 7 20 (.array (.int)) true := xPut.ofF (own := RX8) (index := 35) (ci := 7) (k := 20) (C := RX8) (T := TX8) (N := 47) tyX8 rfl in_X8 tyX8_ok nmX8 (by decide) rfl rfl rfl q1513
theorem gf_X8_38 : xGet RX8 38 7 21 := xGet.of (own := RX8) (index := 38) (ci := 7) (k := 21) (C := RX8) (T := TX8) (N := 47) rfl in_X8 (by decide) q1514
theorem pf_X8_38 : xPut RX8 38 7 21 (.array (.int)) true := xPut.ofF (own := RX8) (index := 38) (ci := 7) (k := 21) (C := RX8) (T := TX8) (N := 47) tyX8 rfl in_X8 tyX8_ok nmX8 (by decide) rfl rfl rfl q1514
theorem gf_X8_41 : xGet RX8 41 7 22 := xGet.of (own := RX8) (index := 41) (ci := 7) (k := 22) (C := RX8) (T := TX8) (N := 47) rfl in_X8 (by decide) q1515
theorem pf_X8_41 : xPut RX8 41 7 22 (.array (.long)) true := xPut.ofF (own := RX8) (index := 41) (ci := 7) (k := 22) (C := RX8) (T := TX8) (N := 47) tyX8 rfl in_X8 tyX8_ok nmX8 (by decide) rfl rfl rfl q1515
theorem gf_X8_519 : xGet RX8 519 7 23 := xGet.of (own := RX8) (index := 519) (ci := 7) (k := 23) (C := RX8) (T := TX8) (N := 47) rfl in_X8 (by decide) q1516
theorem pf_X8_519 {ini : Bool} : xPut RX8 519 7 23 (.int) ini := xPut.of (own := RX8) (index := 519) (ci := 7) (k := 23) (C := RX8) (T := TX8) (N := 47) tyX8 rfl in_X8 tyX8_ok nmX8 (by decide) rfl rfl q1516
theorem gf_X8_243 : xGet RX8 243 7 24 := xGet.of (own := RX8) (index := 243) (ci := 7) (k := 24) (C := RX8) (T := TX8) (N := 47) rfl in_X8 (by decide) q1517
theorem pf_X8_243 {ini : Bool} : xPut RX8 243 7 24 (.boolean) ini := xPut.of (own := RX8) (index := 243) (ci := 7) (k := 24) (C := RX8) (T := TX8) (N := 47) tyX8 rfl in_X8 tyX8_ok nmX8 (by decide) rfl rfl q1517
theorem gf_X8_301 : xGet RX8 301 7 25 := xGet.of (own := RX8) (index := 301) (ci := 7) (k := 25) (C := RX8) (T := TX8) (N := 47) rfl in_X8 (by decide) q1518
theorem pf_X8_301 {ini : Bool} : xPut RX8 301 7 25 (.int) ini := xPut.of (own := RX8) (index := 301) (ci := 7) (k := 25) (C := RX8) (T := TX8) (N := 47) tyX8 rfl in_X8 tyX8_ok nmX8 (by decide) rfl rfl q1518
theorem gf_X8_44 : xGet RX8 44 7 26 := xGet.of (own := RX8) (index := 44) (ci := 7) (k := 26) (C := RX8) (T := TX8) (N := 47) rfl in_X8 (by decide) q1519
theorem pf_X8_44 : xPut RX8 44 7 26 (.array (.int)) true := xPut.ofF (own := RX8) (index := 44) (ci := 7) (k := 26) (C := RX8) (T := TX8) (N := 47) tyX8 rfl in_X8 tyX8_ok nmX8 (by decide) rfl rfl rfl q1519
theorem gf_X8_47 : xGet RX8 47 7 27 := xGet.of (own := RX8) (index := 47) (ci := 7) (k := 27) (C := RX8) (T := TX8) (N := 47) rfl in_X8 (by decide) q1520
theorem pf_X8_47 : xPut RX8 47 7 27 (.array (.int)) true := xPut.ofF (own := RX8) (index := 47) (ci := 7) (k := 27) (C := RX8) (T := TX8) (N := 47) tyX8 rfl in_X8 tyX8_ok nmX8 (by decide) rfl rfl rfl q1520
theorem gf_X8_50 : xGet RX8 50 7 28 := xGet.of (own := RX8) (index := 50) (ci := 7) (k := 28) (C := RX8) (T := TX8) (N := 47) rfl in_X8 (by decide) q1521
theorem pf_X8_50 : xPut RX8 50 7 28 (.array (.int)) true := xPut.ofF (own := RX8) (index := 50) (ci := 7) (k := 28) (C := RX8) (T := TX8) (N := 47) tyX8 rfl in_X8 tyX8_ok nmX8 (by decide) rfl rfl rfl q1521
theorem gf_X8_383 : xGet RX8 383 7 29 := xGet.of (own := RX8) (index := 383) (ci := 7) (k := 29) (C := RX8) (T := TX8) (N := 47) rfl in_X8 (by decide) q1522
theorem pf_X8_383 {ini : Bool} : xPut RX8 383 7 29 (.int) ini := xPut.of (own := RX8) (index := 383) (ci := 7) (k := 29) (C := RX8) (T := TX8) (N := 47) tyX8 rfl in_X8 tyX8_ok nmX8 (by decide) rfl rfl q1522
theorem gf_X8_53 : xGet RX8 53 7 30 := xGet.of (own := RX8) (index := 53) (ci := 7) (k := 30) (C := RX8) (T := TX8) (N := 47) rfl in_X8 (by decide) q1523
theorem pf_X8_53 : xPut RX8 53 7 30 (.array (.int)) true := xPut.ofF (own := RX8) (index := 53) (ci := 7) (k := 30) (C := RX8) (T := TX8) (N := 47) tyX8 rfl in_X8 tyX8_ok nmX8 (by decide) rfl rfl rfl q1523
theorem gf_X8_432 : xGet RX8 432 7 31 := xGet.of (own := RX8) (index := 432) (ci := 7) (k := 31) (C := RX8) (T := TX8) (N := 47) rfl in_X8 (by decide) q1524
theorem pf_X8_432 {ini : Bool} : xPut RX8 432 7 31 (.int) ini := xPut.of (own := RX8) (index := 432) (ci := 7) (k := 31) (C := RX8) (T := TX8) (N := 47) tyX8 rfl in_X8 tyX8_ok nmX8 (by decide) rfl rfl q1524
theorem gf_X8_435 : xGet RX8 435 7 32 := xGet.of (own := RX8) (index := 435) (ci := 7) (k := 32) (C := RX8) (T := TX8) (N := 47) rfl in_X8 (by decide) q1525
theorem pf_X8_435 {ini : Bool} : xPut RX8 435 7 32 (.int) ini := xPut.of (own := RX8) (index := 435) (ci := 7) (k := 32) (C := RX8) (T := TX8) (N := 47) tyX8 rfl in_X8 tyX8_ok nmX8 (by decide) rfl rfl q1525
theorem gf_X8_423 : xGet RX8 423 7 33 := xGet.of (own := RX8) (index := 423) (ci := 7) (k := 33) (C := RX8) (T := TX8) (N := 47) rfl in_X8 (by decide) q1526
theorem pf_X8_423 {ini : Bool} : xPut RX8 423 7 33 (.int) ini := xPut.of (own := RX8) (index := 423) (ci := 7) (k := 33) (C := RX8) (T := TX8) (N := 47) tyX8 rfl in_X8 tyX8_ok nmX8 (by decide) rfl rfl q1526
theorem gf_X8_56 : xGet RX8 56 7 34 := xGet.of (own := RX8) (index := 56) (ci := 7) (k := 34) (C := RX8) (T := TX8) (N := 47) rfl in_X8 (by decide) q1527
theorem pf_X8_56 : xPut RX8 56 7 34 (.array (.boolean)) true := xPut.ofF (own := RX8) (index := 56) (ci := 7) (k := 34) (C := RX8) (T := TX8) (N := 47) tyX8 rfl in_X8 tyX8_ok nmX8 (by decide) rfl rfl rfl q1527
theorem gf_X8_450 : xGet RX8 450 7 35 := xGet.of (own := RX8) (index := 450) (ci := 7) (k := 35) (C := RX8) (T := TX8) (N := 47) rfl in_X8 (by decide) q1528
theorem pf_X8_450 {ini : Bool} : xPut RX8 450 7 35 (.int) ini := xPut.of (own := RX8) (index := 450) (ci := 7) (k := 35) (C := RX8) (T := TX8) (N := 47) tyX8 rfl in_X8 tyX8_ok nmX8 (by decide) rfl rfl q1528
theorem gf_X8_60 : xGet RX8 60 7 36 := xGet.of (own := RX8) (index := 60) (ci := 7) (k := 36) (C := RX8) (T := TX8) (N := 47) rfl in_X8 (by decide) q1529
theorem pf_X8_60 : xPut RX8 60 7 36 (.array (.long)) true := xPut.ofF (own := RX8) (index := 60) (ci := 7) (k := 36) (C := RX8) (T := TX8) (N := 47) tyX8 rfl in_X8 tyX8_ok nmX8 (by decide) rfl rfl rfl q1529
theorem gf_X8_63 : xGet RX8 63 7 37 := xGet.of (own := RX8) (index := 63) (ci := 7) (k := 37) (C := RX8) (T := TX8) (N := 47) rfl in_X8 (by decide) q1530
theorem pf_X8_63 : xPut RX8 63 7 37 (.array (.int)) true := xPut.ofF (own := RX8) (index := 63) (ci := 7) (k := 37) (C := RX8) (T := TX8) (N := 47) tyX8 rfl in_X8 tyX8_ok nmX8 (by decide) rfl rfl rfl q1530
theorem gf_X8_514 : xGet RX8 514 7 38 := xGet.of (own := RX8) (index := 514) (ci := 7) (k := 38) (C := RX8) (T := TX8) (N := 47) rfl in_X8 (by decide) q1531
theorem pf_X8_514 {ini : Bool} : xPut RX8 514 7 38 (.boolean) ini := xPut.of (own := RX8) (index := 514) (ci := 7) (k := 38) (C := RX8) (T := TX8) (N := 47) tyX8 rfl in_X8 tyX8_ok nmX8 (by decide) rfl rfl q1531
theorem gf_X8_479 : xGet RX8 479 7 39 := xGet.of (own := RX8) (index := 479) (ci := 7) (k := 39) (C := RX8) (T := TX8) (N := 47) rfl in_X8 (by decide) q1532
theorem pf_X8_479 {ini : Bool} : xPut RX8 479 7 39 (.boolean) ini := xPut.of (own := RX8) (index := 479) (ci := 7) (k := 39) (C := RX8) (T := TX8) (N := 47) tyX8 rfl in_X8 tyX8_ok nmX8 (by decide) rfl rfl q1532
theorem gf_X8_460 : xGet RX8 460 7 40 := xGet.of (own := RX8) (index := 460) (ci := 7) (k := 40) (C := RX8) (T := TX8) (N := 47) rfl in_X8 (by decide) q1533
theorem pf_X8_460 {ini : Bool} : xPut RX8 460 7 40 (.int) ini := xPut.of (own := RX8) (index := 460) (ci := 7) (k := 40) (C := RX8) (T := TX8) (N := 47) tyX8 rfl in_X8 tyX8_ok nmX8 (by decide) rfl rfl q1533
theorem gf_X8_476 : xGet RX8 476 7 41 := xGet.of (own := RX8) (index := 476) (ci := 7) (k := 41) (C := RX8) (T := TX8) (N := 47) rfl in_X8 (by decide) q1534
theorem pf_X8_476 {ini : Bool} : xPut RX8 476 7 41 (.int) ini := xPut.of (own := RX8) (index := 476) (ci := 7) (k := 41) (C := RX8) (T := TX8) (N := 47) tyX8 rfl in_X8 tyX8_ok nmX8 (by decide) rfl rfl q1534
theorem gf_X8_485 : xGet RX8 485 7 42 := xGet.of (own := RX8) (index := 485) (ci := 7) (k := 42) (C := RX8) (T := TX8) (N := 47) rfl in_X8 (by decide) q1535
theorem pf_X8_485 {ini : Bool} : xPut RX8 485 7 42 (.int) ini := xPut.of (own := RX8) (index := 485) (ci := 7) (k := 42) (C := RX8) (T := TX8) (N := 47) tyX8 rfl in_X8 tyX8_ok nmX8 (by decide) rfl rfl q1535
theorem gf_X8_500 : xGet RX8 500 7 43 := xGet.of (own := RX8) (index := 500) (ci := 7) (k := 43) (C := RX8) (T := TX8) (N := 47) rfl in_X8 (by decide) q1536
theorem pf_X8_500 {ini : Bool} : xPut RX8 500 7 43 (.int) ini := xPut.of (own := RX8) (index := 500) (ci := 7) (k := 43) (C := RX8) (T := TX8) (N := 47) tyX8 rfl in_X8 tyX8_ok nmX8 (by decide) rfl rfl q1536
theorem gf_X8_467 : xGet RX8 467 7 44 := xGet.of (own := RX8) (index := 467) (ci := 7) (k := 44) (C := RX8) (T := TX8) (N := 47) rfl in_X8 (by decide) q1537
theorem pf_X8_467 {ini : Bool} : xPut RX8 467 7 44 (.int) ini := xPut.of (own := RX8) (index := 467) (ci := 7) (k := 44) (C := RX8) (T := TX8) (N := 47) tyX8 rfl in_X8 tyX8_ok nmX8 (by decide) rfl rfl q1537
theorem gf_X8_506 : xGet RX8 506 7 45 := xGet.of (own := RX8) (index := 506) (ci := 7) (k := 45) (C := RX8) (T := TX8) (N := 47) rfl in_X8 (by decide) q1538
theorem pf_X8_506 {ini : Bool} : xPut RX8 506 7 45 (.int) ini := xPut.of (own := RX8) (index := 506) (ci := 7) (k := 45) (C := RX8) (T := TX8) (N := 47) tyX8 rfl in_X8 tyX8_ok nmX8 (by decide) rfl rfl q1538
theorem gf_X8_482 : xGet RX8 482 7 46 := xGet.of (own := RX8) (index := 482) (ci := 7) (k := 46) (C := RX8) (T := TX8) (N := 47) rfl in_X8 (by decide) q1539
theorem pf_X8_482 {ini : Bool} : xPut RX8 482 7 46 (.int) ini := xPut.of (own := RX8) (index := 482) (ci := 7) (k := 46) (C := RX8) (T := TX8) (N := 47) tyX8 rfl in_X8 tyX8_ok nmX8 (by decide) rfl rfl q1539
theorem gf_X9_7 : xGet RX9 7 8 0 := xGet.of (own := RX9) (index := 7) (ci := 8) (k := 0) (C := RX9) (T := TX9) (N := 4) rfl in_X9 (by decide) q858
theorem pf_X9_7 : xPut RX9 7 8 0 (.long) true := xPut.ofF (own := RX9) (index := 7) (ci := 8) (k := 0) (C := RX9) (T := TX9) (N := 4) tyX9 rfl in_X9 tyX9_ok nmX9 (by decide) rfl rfl rfl q858
theorem gf_X9_20 : xGet RX9 20 8 1 := xGet.of (own := RX9) (index := 20) (ci := 8) (k := 1) (C := RX9) (T := TX9) (N := 4) rfl in_X9 (by decide) q860
theorem pf_X9_20 {ini : Bool} : xPut RX9 20 8 1 (.int) ini := xPut.of (own := RX9) (index := 20) (ci := 8) (k := 1) (C := RX9) (T := TX9) (N := 4) tyX9 rfl in_X9 tyX9_ok nmX9 (by decide) rfl rfl q860
theorem gf_X9_24 : xGet RX9 24 8 2 := xGet.of (own := RX9) (index := 24) (ci := 8) (k := 2) (C := RX9) (T := TX9) (N := 4) rfl in_X9 (by decide) q864
theorem pf_X9_24 {ini : Bool} : xPut RX9 24 8 2 (.int) ini := xPut.of (own := RX9) (index := 24) (ci := 8) (k := 2) (C := RX9) (T := TX9) (N := 4) tyX9 rfl in_X9 tyX9_ok nmX9 (by decide) rfl rfl q864
theorem gf_X9_27 : xGet RX9 27 8 3 := xGet.of (own := RX9) (index := 27) (ci := 8) (k := 3) (C := RX9) (T := TX9) (N := 4) rfl in_X9 (by decide) q867
theorem pf_X9_27 {ini : Bool} : xPut RX9 27 8 3 (.int) ini := xPut.of (own := RX9) (index := 27) (ci := 8) (k := 3) (C := RX9) (T := TX9) (N := 4) tyX9 rfl in_X9 tyX9_ok nmX9 (by decide) rfl rfl q867
theorem gf_X2_196 : xGet RX2 196 1 10 := xGet.of (own := RX2) (index := 196) (ci := 1) (k := 10) (C := RX2) (T := TX2) (N := 19) rfl in_X2 (by decide) q304
theorem pf_X2_196 {ini : Bool} : xPut RX2 196 1 10 (.int) ini := xPut.of (own := RX2) (index := 196) (ci := 1) (k := 10) (C := RX2) (T := TX2) (N := 19) tyX2 rfl in_X2 tyX2_ok nmX2 (by decide) rfl rfl q304
theorem gf_X2_199 : xGet RX2 199 1 11 := xGet.of (own := RX2) (index := 199) (ci := 1) (k := 11) (C := RX2) (T := TX2) (N := 19) rfl in_X2 (by decide) q306
theorem pf_X2_199 {ini : Bool} : xPut RX2 199 1 11 (.int) ini := xPut.of (own := RX2) (index := 199) (ci := 1) (k := 11) (C := RX2) (T := TX2) (N := 19) tyX2 rfl in_X2 tyX2_ok nmX2 (by decide) rfl rfl q306
theorem gf_X2_202 : xGet RX2 202 1 12 := xGet.of (own := RX2) (index := 202) (ci := 1) (k := 12) (C := RX2) (T := TX2) (N := 19) rfl in_X2 (by decide) q308
theorem pf_X2_202 {ini : Bool} : xPut RX2 202 1 12 (.int) ini := xPut.of (own := RX2) (index := 202) (ci := 1) (k := 12) (C := RX2) (T := TX2) (N := 19) tyX2 rfl in_X2 tyX2_ok nmX2 (by decide) rfl rfl q308
theorem gf_X2_84 : xGet RX2 84 1 13 := xGet.of (own := RX2) (index := 84) (ci := 1) (k := 13) (C := RX2) (T := TX2) (N := 19) rfl in_X2 (by decide) q309
theorem pf_X2_84 {ini : Bool} : xPut RX2 84 1 13 (.int) ini := xPut.of (own := RX2) (index := 84) (ci := 1) (k := 13) (C := RX2) (T := TX2) (N := 19) tyX2 rfl in_X2 tyX2_ok nmX2 (by decide) rfl rfl q309
theorem gf_X2_18 : xGet RX2 18 1 14 := xGet.of (own := RX2) (index := 18) (ci := 1) (k := 14) (C := RX2) (T := TX2) (N := 19) rfl in_X2 (by decide) q310
theorem pf_X2_18 : xPut RX2 18 1 14 (.object "TinFen$Metal") true := xPut.ofF (own := RX2) (index := 18) (ci := 1) (k := 14) (C := RX2) (T := TX2) (N := 19) tyX2 rfl in_X2 tyX2_ok nmX2 (by decide) rfl rfl rfl q310
theorem gf_X2_27 : xGet RX2 27 1 15 := xGet.of (own := RX2) (index := 27) (ci := 1) (k := 15) (C := RX2) (T := TX2) (N := 19) rfl in_X2 (by decide) q312
theorem pf_X2_27 : xPut RX2 27 1 15 (.object "TinFen$Metal") true := xPut.ofF (own := RX2) (index := 27) (ci := 1) (k := 15) (C := RX2) (T := TX2) (N := 19) tyX2 rfl in_X2 tyX2_ok nmX2 (by decide) rfl rfl rfl q312
theorem gf_X2_59 : xGet RX2 59 1 16 := xGet.of (own := RX2) (index := 59) (ci := 1) (k := 16) (C := RX2) (T := TX2) (N := 19) rfl in_X2 (by decide) q314
theorem pf_X2_59 {ini : Bool} : xPut RX2 59 1 16 (.object "TinFen$Fen") ini := xPut.of (own := RX2) (index := 59) (ci := 1) (k := 16) (C := RX2) (T := TX2) (N := 19) tyX2 rfl in_X2 tyX2_ok nmX2 (by decide) rfl rfl q314
theorem gf_X2_192 : xGet RX2 192 1 17 := xGet.of (own := RX2) (index := 192) (ci := 1) (k := 17) (C := RX2) (T := TX2) (N := 19) rfl in_X2 (by decide) q315
theorem pf_X2_192 {ini : Bool} : xPut RX2 192 1 17 (.array (.object "TinFen$Step")) ini := xPut.of (own := RX2) (index := 192) (ci := 1) (k := 17) (C := RX2) (T := TX2) (N := 19) tyX2 rfl in_X2 tyX2_ok nmX2 (by decide) rfl rfl q315
theorem gf_X2_30 : xGet RX2 30 1 18 := xGet.of (own := RX2) (index := 30) (ci := 1) (k := 18) (C := RX2) (T := TX2) (N := 19) rfl in_X2 (by decide) q316
theorem pf_X2_30 : xPut RX2 30 1 18 (.array (.int)) true := xPut.ofF (own := RX2) (index := 30) (ci := 1) (k := 18) (C := RX2) (T := TX2) (N := 19) tyX2 rfl in_X2 tyX2_ok nmX2 (by decide) rfl rfl rfl q316
theorem gf_X2_49 : xGet RX2 49 1 2 := xGet.ofS (own := RX2) (index := 49) (ci := 1) (k := 2) (C := RX2) (T := TX2) (N := 19) (ref := "TinFen$Reader") rfl in_X2 (by decide) q321 q322
theorem gf_X2_56 : xGet RX2 56 1 3 := xGet.ofS (own := RX2) (index := 56) (ci := 1) (k := 3) (C := RX2) (T := TX2) (N := 19) (ref := "TinFen$Reader") rfl in_X2 (by decide) q324 q325
theorem gf_X2_53 : xGet RX2 53 1 4 := xGet.ofS (own := RX2) (index := 53) (ci := 1) (k := 4) (C := RX2) (T := TX2) (N := 19) (ref := "TinFen$Reader") rfl in_X2 (by decide) q328 q329
theorem gf_X2_222 : xGet RX2 222 1 5 := xGet.ofS (own := RX2) (index := 222) (ci := 1) (k := 5) (C := RX2) (T := TX2) (N := 19) (ref := "TinFen$Reader") rfl in_X2 (by decide) q331 q332
theorem gf_X2_151 : xGet RX2 151 5 0 := xGet.of (own := RX2) (index := 151) (ci := 5) (k := 0) (C := RX6) (T := TX6) (N := 10) rfl in_X6 (by decide) q387
theorem gf_X2_148 : xGet RX2 148 5 1 := xGet.of (own := RX2) (index := 148) (ci := 5) (k := 1) (C := RX6) (T := TX6) (N := 10) rfl in_X6 (by decide) q389
theorem gf_X2_171 : xGet RX2 171 5 2 := xGet.of (own := RX2) (index := 171) (ci := 5) (k := 2) (C := RX6) (T := TX6) (N := 10) rfl in_X6 (by decide) q392
theorem gf_X2_97 : xGet RX2 97 5 4 := xGet.ofN (own := RX2) (index := 97) (ci := 5) (k := 4) (C := RX6) (T := TX6) (N := 10) rfl in_X6 (by decide) q397
theorem pf_X2_97 {ini : Bool} : xPut RX2 97 5 4 (.int) ini := xPut.ofN (own := RX2) (index := 97) (ci := 5) (k := 4) (C := RX6) (T := TX6) (N := 10) tyX6 rfl in_X6 tyX6_ok nmX6 (by decide) rfl rfl q397
theorem gf_X2_100 : xGet RX2 100 5 5 := xGet.ofN (own := RX2) (index := 100) (ci := 5) (k := 5) (C := RX6) (T := TX6) (N := 10) rfl in_X6 (by decide) q400
theorem pf_X2_100 {ini : Bool} : xPut RX2 100 5 5 (.int) ini := xPut.ofN (own := RX2) (index := 100) (ci := 5) (k := 5) (C := RX6) (T := TX6) (N := 10) tyX6 rfl in_X6 tyX6_ok nmX6 (by decide) rfl rfl q400
theorem gf_X2_103 : xGet RX2 103 5 6 := xGet.ofN (own := RX2) (index := 103) (ci := 5) (k := 6) (C := RX6) (T := TX6) (N := 10) rfl in_X6 (by decide) q403
theorem pf_X2_103 {ini : Bool} : xPut RX2 103 5 6 (.int) ini := xPut.ofN (own := RX2) (index := 103) (ci := 5) (k := 6) (C := RX6) (T := TX6) (N := 10) tyX6 rfl in_X6 tyX6_ok nmX6 (by decide) rfl rfl q403
theorem gf_X2_106 : xGet RX2 106 5 7 := xGet.ofN (own := RX2) (index := 106) (ci := 5) (k := 7) (C := RX6) (T := TX6) (N := 10) rfl in_X6 (by decide) q406
theorem pf_X2_106 {ini : Bool} : xPut RX2 106 5 7 (.int) ini := xPut.ofN (own := RX2) (index := 106) (ci := 5) (k := 7) (C := RX6) (T := TX6) (N := 10) tyX6 rfl in_X6 tyX6_ok nmX6 (by decide) rfl rfl q406
theorem gf_X2_117 : xGet RX2 117 5 8 := xGet.ofN (own := RX2) (index := 117) (ci := 5) (k := 8) (C := RX6) (T := TX6) (N := 10) rfl in_X6 (by decide) q409
theorem pf_X2_117 {ini : Bool} : xPut RX2 117 5 8 (.int) ini := xPut.ofN (own := RX2) (index := 117) (ci := 5) (k := 8) (C := RX6) (T := TX6) (N := 10) tyX6 rfl in_X6 tyX6_ok nmX6 (by decide) rfl rfl q409
theorem gf_X2_162 : xGet RX2 162 8 1 := xGet.ofN (own := RX2) (index := 162) (ci := 8) (k := 1) (C := RX9) (T := TX9) (N := 4) rfl in_X9 (by decide) q862
theorem pf_X2_162 {ini : Bool} : xPut RX2 162 8 1 (.int) ini := xPut.ofN (own := RX2) (index := 162) (ci := 8) (k := 1) (C := RX9) (T := TX9) (N := 4) tyX9 rfl in_X9 tyX9_ok nmX9 (by decide) rfl rfl q862
theorem gf_X2_228 : xGet RX2 228 10 0 := xGet.of (own := RX2) (index := 228) (ci := 10) (k := 0) (C := RX11) (T := TX11) (N := 7) rfl in_X11 (by decide) q1006
theorem gf_X2_213 : xGet RX2 213 10 1 := xGet.ofN (own := RX2) (index := 213) (ci := 10) (k := 1) (C := RX11) (T := TX11) (N := 7) rfl in_X11 (by decide) q1008
theorem pf_X2_213 {ini : Bool} : xPut RX2 213 10 1 (.int) ini := xPut.ofN (own := RX2) (index := 213) (ci := 10) (k := 1) (C := RX11) (T := TX11) (N := 7) tyX11 rfl in_X11 tyX11_ok nmX11 (by decide) rfl rfl q1008
theorem gf_X2_216 : xGet RX2 216 10 2 := xGet.ofN (own := RX2) (index := 216) (ci := 10) (k := 2) (C := RX11) (T := TX11) (N := 7) rfl in_X11 (by decide) q1010
theorem pf_X2_216 {ini : Bool} : xPut RX2 216 10 2 (.int) ini := xPut.ofN (own := RX2) (index := 216) (ci := 10) (k := 2) (C := RX11) (T := TX11) (N := 7) tyX11 rfl in_X11 tyX11_ok nmX11 (by decide) rfl rfl q1010
theorem gf_X2_208 : xGet RX2 208 10 3 := xGet.ofN (own := RX2) (index := 208) (ci := 10) (k := 3) (C := RX11) (T := TX11) (N := 7) rfl in_X11 (by decide) q1012
theorem pf_X2_208 {ini : Bool} : xPut RX2 208 10 3 (.int) ini := xPut.ofN (own := RX2) (index := 208) (ci := 10) (k := 3) (C := RX11) (T := TX11) (N := 7) tyX11 rfl in_X11 tyX11_ok nmX11 (by decide) rfl rfl q1012
theorem gf_X2_225 : xGet RX2 225 10 4 := xGet.ofN (own := RX2) (index := 225) (ci := 10) (k := 4) (C := RX11) (T := TX11) (N := 7) rfl in_X11 (by decide) q1014
theorem pf_X2_225 {ini : Bool} : xPut RX2 225 10 4 (.int) ini := xPut.ofN (own := RX2) (index := 225) (ci := 10) (k := 4) (C := RX11) (T := TX11) (N := 7) tyX11 rfl in_X11 tyX11_ok nmX11 (by decide) rfl rfl q1014
theorem gf_X2_239 : xGet RX2 239 10 5 := xGet.ofN (own := RX2) (index := 239) (ci := 10) (k := 5) (C := RX11) (T := TX11) (N := 7) rfl in_X11 (by decide) q1016
theorem pf_X2_239 {ini : Bool} : xPut RX2 239 10 5 (.int) ini := xPut.ofN (own := RX2) (index := 239) (ci := 10) (k := 5) (C := RX11) (T := TX11) (N := 7) tyX11 rfl in_X11 tyX11_ok nmX11 (by decide) rfl rfl q1016
theorem gf_X4_9 : xGet RX4 9 9 3 := xGet.ofN (own := RX4) (index := 9) (ci := 9) (k := 3) (C := RX10) (T := TX10) (N := 7) rfl in_X10 (by decide) q933
theorem pf_X4_9 {ini : Bool} : xPut RX4 9 9 3 (.int) ini := xPut.ofN (own := RX4) (index := 9) (ci := 9) (k := 3) (C := RX10) (T := TX10) (N := 7) tyX10 rfl in_X10 tyX10_ok nmX10 (by decide) rfl rfl q933
theorem gf_X10_7 : xGet RX10 7 9 0 := xGet.of (own := RX10) (index := 7) (ci := 9) (k := 0) (C := RX10) (T := TX10) (N := 7) rfl in_X10 (by decide) q926
theorem pf_X10_7 : xPut RX10 7 9 0 (.long) true := xPut.ofF (own := RX10) (index := 7) (ci := 9) (k := 0) (C := RX10) (T := TX10) (N := 7) tyX10 rfl in_X10 tyX10_ok nmX10 (by decide) rfl rfl rfl q926
theorem gf_X10_13 : xGet RX10 13 9 1 := xGet.of (own := RX10) (index := 13) (ci := 9) (k := 1) (C := RX10) (T := TX10) (N := 7) rfl in_X10 (by decide) q928
theorem pf_X10_13 : xPut RX10 13 9 1 (.object "TinFen$Metal") true := xPut.ofF (own := RX10) (index := 13) (ci := 9) (k := 1) (C := RX10) (T := TX10) (N := 7) tyX10 rfl in_X10 tyX10_ok nmX10 (by decide) rfl rfl rfl q928
theorem gf_X10_20 : xGet RX10 20 9 2 := xGet.of (own := RX10) (index := 20) (ci := 9) (k := 2) (C := RX10) (T := TX10) (N := 7) rfl in_X10 (by decide) q930
theorem pf_X10_20 {ini : Bool} : xPut RX10 20 9 2 (.int) ini := xPut.of (own := RX10) (index := 20) (ci := 9) (k := 2) (C := RX10) (T := TX10) (N := 7) tyX10 rfl in_X10 tyX10_ok nmX10 (by decide) rfl rfl q930
theorem gf_X10_28 : xGet RX10 28 9 3 := xGet.of (own := RX10) (index := 28) (ci := 9) (k := 3) (C := RX10) (T := TX10) (N := 7) rfl in_X10 (by decide) q935
theorem pf_X10_28 {ini : Bool} : xPut RX10 28 9 3 (.int) ini := xPut.of (own := RX10) (index := 28) (ci := 9) (k := 3) (C := RX10) (T := TX10) (N := 7) tyX10 rfl in_X10 tyX10_ok nmX10 (by decide) rfl rfl q935
theorem gf_X10_31 : xGet RX10 31 9 4 := xGet.of (own := RX10) (index := 31) (ci := 9) (k := 4) (C := RX10) (T := TX10) (N := 7) rfl in_X10 (by decide) q938
theorem pf_X10_31 {ini : Bool} : xPut RX10 31 9 4 (.int) ini := xPut.of (own := RX10) (index := 31) (ci := 9) (k := 4) (C := RX10) (T := TX10) (N := 7) tyX10 rfl in_X10 tyX10_ok nmX10 (by decide) rfl rfl q938
theorem gf_X10_34 : xGet RX10 34 9 5 := xGet.of (own := RX10) (index := 34) (ci := 9) (k := 5) (C := RX10) (T := TX10) (N := 7) rfl in_X10 (by decide) q941
theorem pf_X10_34 {ini : Bool} : xPut RX10 34 9 5 (.int) ini := xPut.of (own := RX10) (index := 34) (ci := 9) (k := 5) (C := RX10) (T := TX10) (N := 7) tyX10 rfl in_X10 tyX10_ok nmX10 (by decide) rfl rfl q941
theorem gf_X10_37 : xGet RX10 37 9 6 := xGet.of (own := RX10) (index := 37) (ci := 9) (k := 6) (C := RX10) (T := TX10) (N := 7) rfl in_X10 (by decide) q945
theorem pf_X10_37 {ini : Bool} : xPut RX10 37 9 6 (.boolean) ini := xPut.of (own := RX10) (index := 37) (ci := 9) (k := 6) (C := RX10) (T := TX10) (N := 7) tyX10 rfl in_X10 tyX10_ok nmX10 (by decide) rfl rfl q945
theorem nw_X6_19 : xNew RX6 19 8 4 [.long 0, .int 0, .int 0, .int 0] := ⟨RX9, TX9, tyX9, rfl, in_X9, tyX9_ok, q382, q853, q175, fun j hj => by rcases (show j = 0 ∨ j = 1 ∨ j = 2 ∨ j = 3 by omega) with rfl | rfl | rfl | rfl <;> rfl, fun v hv n e => by subst e; simp at hv⟩
theorem nw_X6_25 : xNew RX6 25 9 7 [.long 0, .null, .int 0, .int 0, .int 0, .int 0, .int 0] := ⟨RX10, TX10, tyX10, rfl, in_X10, tyX10_ok, q384, q921, q176, fun j hj => by rcases (show j = 0 ∨ j = 1 ∨ j = 2 ∨ j = 3 ∨ j = 4 ∨ j = 5 ∨ j = 6 by omega) with rfl | rfl | rfl | rfl | rfl | rfl | rfl <;> rfl, fun v hv n e => by subst e; simp at hv⟩
theorem nw_X6_10 : xNew RX6 10 5 10 [.null, .null, .null, .null, .int 0, .int 0, .int 0, .int 0, .int 0, .int 0] := ⟨RX6, TX6, tyX6, rfl, in_X6, tyX6_ok, q1354, q377, q162, fun j hj => by rcases (show j = 0 ∨ j = 1 ∨ j = 2 ∨ j = 3 ∨ j = 4 ∨ j = 5 ∨ j = 6 ∨ j = 7 ∨ j = 8 ∨ j = 9 by omega) with rfl | rfl | rfl | rfl | rfl | rfl | rfl | rfl | rfl | rfl <;> rfl, fun v hv n e => by subst e; simp at hv⟩
theorem nw_X0_13 : xNew RX0 13 6 2 [.null, .int 0] := ⟨RX7, TX7, tyX7, rfl, in_X7, tyX7_ok, q187, q438, q163, fun j hj => by rcases (show j = 0 ∨ j = 1 by omega) with rfl | rfl <;> rfl, fun v hv n e => by subst e; simp at hv⟩
theorem nw_X0_19 : xNew RX0 19 1 19 [.null, .int 0, .int 0, .int 0, .int 0, .int 0, .null, .null, .null, .int 0, .int 0, .int 0, .int 0, .int 0, .null, .null, .null, .null, .null] := ⟨RX2, TX2, tyX2, rfl, in_X2, tyX2_ok, q189, q190, q155, fun j hj => by rcases (show j = 0 ∨ j = 1 ∨ j = 2 ∨ j = 3 ∨ j = 4 ∨ j = 5 ∨ j = 6 ∨ j = 7 ∨ j = 8 ∨ j = 9 ∨ j = 10 ∨ j = 11 ∨ j = 12 ∨ j = 13 ∨ j = 14 ∨ j = 15 ∨ j = 16 ∨ j = 17 ∨ j = 18 by omega) with rfl | rfl | rfl | rfl | rfl | rfl | rfl | rfl | rfl | rfl | rfl | rfl | rfl | rfl | rfl | rfl | rfl | rfl | rfl <;> rfl, fun v hv n e => by subst e; simp at hv⟩
theorem nw_X0_21 : xNew RX0 21 2 8 [.null, .null, .null, .null, .null, .int 0, .int 0, .int 0] := ⟨RX3, TX3, tyX3, rfl, in_X3, tyX3_ok, q191, q192, q159, fun j hj => by rcases (show j = 0 ∨ j = 1 ∨ j = 2 ∨ j = 3 ∨ j = 4 ∨ j = 5 ∨ j = 6 ∨ j = 7 by omega) with rfl | rfl | rfl | rfl | rfl | rfl | rfl | rfl <;> rfl, fun v hv n e => by subst e; simp at hv⟩
theorem nw_X0_31 : xNew RX0 31 5 10 [.null, .null, .null, .null, .int 0, .int 0, .int 0, .int 0, .int 0, .int 0] := ⟨RX6, TX6, tyX6, rfl, in_X6, tyX6_ok, q376, q377, q162, fun j hj => by rcases (show j = 0 ∨ j = 1 ∨ j = 2 ∨ j = 3 ∨ j = 4 ∨ j = 5 ∨ j = 6 ∨ j = 7 ∨ j = 8 ∨ j = 9 by omega) with rfl | rfl | rfl | rfl | rfl | rfl | rfl | rfl | rfl | rfl <;> rfl, fun v hv n e => by subst e; simp at hv⟩
theorem nw_X0_76 : xNew RX0 76 11 3 [.null, .null, .int 0] := ⟨RX12, TX12, tyX12, rfl, in_X12, tyX12_ok, q436, q1461, q178, fun j hj => by rcases (show j = 0 ∨ j = 1 ∨ j = 2 by omega) with rfl | rfl | rfl <;> rfl, fun v hv n e => by subst e; simp at hv⟩
theorem nw_X0_198 : xNew RX0 198 9 7 [.long 0, .null, .int 0, .int 0, .int 0, .int 0, .int 0] := ⟨RX10, TX10, tyX10, rfl, in_X10, tyX10_ok, q1163, q921, q176, fun j hj => by rcases (show j = 0 ∨ j = 1 ∨ j = 2 ∨ j = 3 ∨ j = 4 ∨ j = 5 ∨ j = 6 by omega) with rfl | rfl | rfl | rfl | rfl | rfl | rfl <;> rfl, fun v hv n e => by subst e; simp at hv⟩
theorem nw_X9_8 : xNew RX9 8 8 4 [.long 0, .int 0, .int 0, .int 0] := ⟨RX9, TX9, tyX9, rfl, in_X9, tyX9_ok, q1361, q853, q175, fun j hj => by rcases (show j = 0 ∨ j = 1 ∨ j = 2 ∨ j = 3 by omega) with rfl | rfl | rfl | rfl <;> rfl, fun v hv n e => by subst e; simp at hv⟩
theorem nw_X2_13 : xNew RX2 13 3 0 [] := by
  refine ⟨RX4, TX4, fun _ => .int, rfl, ?_, ?_, q288, q289, q160, ?_, ?_⟩
  · intro c hc
    have hc : c ∈ ([] : List Cond) := hc
    cases hc
  · intro k h
    omega
  · intro j h
    omega
  · intro v hv
    cases hv
theorem nw_X2_24 : xNew RX2 24 4 0 [] := by
  refine ⟨RX5, TX5, fun _ => .int, rfl, ?_, ?_, q296, q297, q161, ?_, ?_⟩
  · intro c hc
    have hc : c ∈ ([] : List Cond) := hc
    cases hc
  · intro k h
    omega
  · intro j h
    omega
  · intro v hv
    cases hv
theorem nw_X2_68 : xNew RX2 68 5 10 [.null, .null, .null, .null, .int 0, .int 0, .int 0, .int 0, .int 0, .int 0] := ⟨RX6, TX6, tyX6, rfl, in_X6, tyX6_ok, q680, q377, q162, fun j hj => by rcases (show j = 0 ∨ j = 1 ∨ j = 2 ∨ j = 3 ∨ j = 4 ∨ j = 5 ∨ j = 6 ∨ j = 7 ∨ j = 8 ∨ j = 9 by omega) with rfl | rfl | rfl | rfl | rfl | rfl | rfl | rfl | rfl | rfl <;> rfl, fun v hv n e => by subst e; simp at hv⟩
theorem nw_X2_127 : xNew RX2 127 8 4 [.long 0, .int 0, .int 0, .int 0] := ⟨RX9, TX9, tyX9, rfl, in_X9, tyX9_ok, q852, q853, q175, fun j hj => by rcases (show j = 0 ∨ j = 1 ∨ j = 2 ∨ j = 3 by omega) with rfl | rfl | rfl | rfl <;> rfl, fun v hv n e => by subst e; simp at hv⟩
theorem nw_X2_181 : xNew RX2 181 9 7 [.long 0, .null, .int 0, .int 0, .int 0, .int 0, .int 0] := ⟨RX10, TX10, tyX10, rfl, in_X10, tyX10_ok, q920, q921, q176, fun j hj => by rcases (show j = 0 ∨ j = 1 ∨ j = 2 ∨ j = 3 ∨ j = 4 ∨ j = 5 ∨ j = 6 by omega) with rfl | rfl | rfl | rfl | rfl | rfl | rfl <;> rfl, fun v hv n e => by subst e; simp at hv⟩
theorem nw_X2_190 : xNew RX2 190 10 7 [.int 0, .int 0, .int 0, .int 0, .int 0, .int 0, .int 0] := ⟨RX11, TX11, tyX11, rfl, in_X11, tyX11_ok, q994, q1000, q177, fun j hj => by rcases (show j = 0 ∨ j = 1 ∨ j = 2 ∨ j = 3 ∨ j = 4 ∨ j = 5 ∨ j = 6 by omega) with rfl | rfl | rfl | rfl | rfl | rfl | rfl <;> rfl, fun v hv n e => by subst e; simp at hv⟩
theorem nw_L_7 : xNew "TinFenLaw" 7 0 25 [.null, .null, .null, .null, .int 0, .int 0, .int 0, .int 0, .long 0, .long 0, .null, .null, .null, .int 0, .null, .null, .int 0, .null, .int 0, .int 0, .null, .null, .int 0, .null, .int 0] := ⟨RX0, TX0, tyX0, rfl, in_X0, tyX0_ok, q179, q180, q153, fun j hj => by rcases (show j = 0 ∨ j = 1 ∨ j = 2 ∨ j = 3 ∨ j = 4 ∨ j = 5 ∨ j = 6 ∨ j = 7 ∨ j = 8 ∨ j = 9 ∨ j = 10 ∨ j = 11 ∨ j = 12 ∨ j = 13 ∨ j = 14 ∨ j = 15 ∨ j = 16 ∨ j = 17 ∨ j = 18 ∨ j = 19 ∨ j = 20 ∨ j = 21 ∨ j = 22 ∨ j = 23 ∨ j = 24 by omega) with rfl | rfl | rfl | rfl | rfl | rfl | rfl | rfl | rfl | rfl | rfl | rfl | rfl | rfl | rfl | rfl | rfl | rfl | rfl | rfl | rfl | rfl | rfl | rfl | rfl <;> rfl, fun v hv n e => by subst e; simp at hv⟩
theorem nw_L_10 : xNew "TinFenLaw" 10 7 47 [.int 0, .int 0, .long 0, .long 0, .null, .null, .null, .null, .int 0, .int 0, .int 0, .int 0, .int 0, .int 0, .int 0, .int 0, .int 0, .int 0, .int 0, .long 0, .null, .null, .null, .int 0, .int 0, .int 0, .null, .null, .null, .int 0, .null, .int 0, .int 0, .int 0, .null, .int 0, .null, .null, .int 0, .int 0, .int 0, .int 0, .int 0, .int 0, .int 0, .int 0, .int 0] := ⟨RX8, TX8, tyX8, rfl, in_X8, tyX8_ok, q1483, q1484, q164, fun j hj => by rcases (show j = 0 ∨ j = 1 ∨ j = 2 ∨ j = 3 ∨ j = 4 ∨ j = 5 ∨ j = 6 ∨ j = 7 ∨ j = 8 ∨ j = 9 ∨ j = 10 ∨ j = 11 ∨ j = 12 ∨ j = 13 ∨ j = 14 ∨ j = 15 ∨ j = 16 ∨ j = 17 ∨ j = 18 ∨ j = 19 ∨ j = 20 ∨ j = 21 ∨ j = 22 ∨ j = 23 ∨ j = 24 ∨ j = 25 ∨ j = 26 ∨ j = 27 ∨ j = 28 ∨ j = 29 ∨ j = 30 ∨ j = 31 ∨ j = 32 ∨ j = 33 ∨ j = 34 ∨ j = 35 ∨ j = 36 ∨ j = 37 ∨ j = 38 ∨ j = 39 ∨ j = 40 ∨ j = 41 ∨ j = 42 ∨ j = 43 ∨ j = 44 ∨ j = 45 ∨ j = 46 by omega) with rfl | rfl | rfl | rfl | rfl | rfl | rfl | rfl | rfl | rfl | rfl | rfl | rfl | rfl | rfl | rfl | rfl | rfl | rfl | rfl | rfl | rfl | rfl | rfl | rfl | rfl | rfl | rfl | rfl | rfl | rfl | rfl | rfl | rfl | rfl | rfl | rfl | rfl | rfl | rfl | rfl | rfl | rfl | rfl | rfl | rfl | rfl <;> rfl, fun v hv n e => by subst e; simp at hv⟩
theorem nw_X10_8 : xNew RX10 8 9 7 [.long 0, .null, .int 0, .int 0, .int 0, .int 0, .int 0] := ⟨RX10, TX10, tyX10, rfl, in_X10, tyX10_ok, q1371, q921, q176, fun j hj => by rcases (show j = 0 ∨ j = 1 ∨ j = 2 ∨ j = 3 ∨ j = 4 ∨ j = 5 ∨ j = 6 by omega) with rfl | rfl | rfl | rfl | rfl | rfl | rfl <;> rfl, fun v hv n e => by subst e; simp at hv⟩
theorem lk_X6_79 : xLk (.invokevirtual 79) (some 5) RX6 yX6_trait 2 := xLk.V (r := (RX6, TX6, 10)) (hh := []) q832 q833 q834 q835 rfl ⟨by decide, by decide⟩ (by decide +kernel)
theorem lk_X6_83 : xLk (.invokevirtual 83) (some 5) RX6 yX6_person 2 := xLk.V (r := (RX6, TX6, 10)) (hh := []) q836 q837 q838 q839 rfl ⟨by decide, by decide⟩ (by decide +kernel)
theorem lk_X6_86 : xLk (.invokevirtual 86) (some 5) RX6 yX6_tin 2 := xLk.V (r := (RX6, TX6, 10)) (hh := []) q840 q841 q842 q843 rfl ⟨by decide, by decide⟩ (by decide +kernel)
theorem lk_X6_103 : xLk (.invokestatic 103) none RX6 yX0_isIn 2 := xLk.SN q1079 q893 q153 q894 ⟨by decide, by decide⟩ (by decide +kernel)
theorem lk_X6_122 : xLk (.invokevirtual 122) (some 5) RX6 yX6_canPass 3 := xLk.V (r := (RX6, TX6, 10)) (hh := []) q1124 q1125 q1126 q1127 rfl ⟨by decide, by decide⟩ (by decide +kernel)
theorem lk_X6_118 : xLk (.invokevirtual 118) (some 5) RX6 yX6_nextOf 3 := xLk.V (r := (RX6, TX6, 10)) (hh := []) q1128 q1129 q1130 q1131 rfl ⟨by decide, by decide⟩ (by decide +kernel)
theorem lk_X6_107 : xLk (.invokevirtual 107) (some 5) RX6 yX6_trueOf 2 := xLk.V (r := (RX6, TX6, 10)) (hh := []) q1132 q1133 q1134 q1135 rfl ⟨by decide, by decide⟩ (by decide +kernel)
theorem lk_X6_35 : xLk (.invokespecial 35) (some 5) RX6 yX6_init 1 := xLk.I (host := "") rfl q1355 q379 q380 ⟨by decide, by decide⟩ (by decide +kernel)
theorem lk_X6_45 : xLk (.invokevirtual 45) (some 8) RX6 yX9_twin 1 := xLk.V (r := (RX9, TX9, 4)) (hh := []) q1357 q1358 q1359 q1360 rfl ⟨by decide, by decide⟩ (by decide +kernel)
theorem lk_X6_52 : xLk (.invokevirtual 52) (some 9) RX6 yX10_twin 1 := xLk.V (r := (RX10, TX10, 7)) (hh := []) q1367 q1368 q1369 q1370 rfl ⟨by decide, by decide⟩ (by decide +kernel)
theorem lk_X6_58 : xLk (.invokevirtual 58) (some 5) RX6 yX6_takes 2 := xLk.V (r := (RX6, TX6, 10)) (hh := []) q1377 q1378 q1379 q1380 rfl ⟨by decide, by decide⟩ (by decide +kernel)
theorem lk_X6_62 : xLk (.invokevirtual 62) (some 8) RX6 yX9_takes 2 := xLk.V (r := (RX9, TX9, 4)) (hh := []) q1381 q1364 q1365 q1366 rfl ⟨by decide, by decide⟩ (by decide +kernel)
theorem lk_X6_65 : xLk (.invokevirtual 65) (some 9) RX6 yX10_takes 2 := xLk.V (r := (RX10, TX10, 7)) (hh := []) q1382 q1374 q1375 q1376 rfl ⟨by decide, by decide⟩ (by decide +kernel)
theorem lk_X1_33_X2 : xLk (.invokevirtual 33) (some 1) RX1 yX1_next 1 := xLk.VU (x := ⟨"TinFen$Scan", "next", "()V"⟩) (owner := "TinFen$Scan") (r := (RX2, TX2, 19)) q688 q690 q689 q692 ⟨by decide, by decide⟩ q691 q689 q692 rfl (by decide +kernel)
theorem lk_X1_46_X2 : xLk (.invokevirtual 46) (some 1) RX1 yX1_at 2 := xLk.P (r := (RX2, TX2, 19)) q693 q695 q694 q696 q154 q685 rfl rfl ⟨by decide, by decide⟩ (by decide +kernel)
theorem lk_X1_59 : xLk (.invokestatic 59) none RX1 yX1_isSmall 1 := xLk.S q697 q698 q154 q699 ⟨by decide, by decide⟩ (by decide +kernel)
theorem lk_X1_63 : xLk (.invokestatic 63) none RX1 yX1_isDigit 1 := xLk.S q700 q701 q154 q702 ⟨by decide, by decide⟩ (by decide +kernel)
theorem lk_X1_67 : xLk (.invokestatic 67) none RX1 yJ8_min 2 := xLk.S q704 q705 q171 q706 ⟨by decide, by decide⟩ (by decide +kernel)
theorem lk_X1_73_X2 : xLk (.invokevirtual 73) (some 1) RX1 yX1_isSign 2 := xLk.P (r := (RX2, TX2, 19)) q707 q709 q708 q710 q154 q685 rfl rfl ⟨by decide, by decide⟩ (by decide +kernel)
theorem lk_X1_86_X2 : xLk (.invokevirtual 86) (some 1) RX1 yX1_in 2 := xLk.VU (x := ⟨"TinFen$Scan", "in", "(Ljava/lang/String;)I"⟩) (owner := "TinFen$Scan") (r := (RX2, TX2, 19)) q769 q771 q770 q773 ⟨by decide, by decide⟩ q772 q770 q773 rfl (by decide +kernel)
theorem lk_X1_90_X2 : xLk (.invokevirtual 90) (some 1) RX1 yX1_isWord 4 := xLk.P (r := (RX2, TX2, 19)) q774 q776 q775 q777 q154 q685 rfl rfl ⟨by decide, by decide⟩ (by decide +kernel)
theorem lk_X1_82_X2 : xLk (.invokevirtual 82) (some 1) RX1 yX1_fail 2 := xLk.VU (x := ⟨"TinFen$Scan", "fail", "(I)LTinFen$Wrong;"⟩) (owner := "TinFen$Scan") (r := (RX2, TX2, 19)) q784 q786 q785 q788 ⟨by decide, by decide⟩ q787 q785 q788 rfl (by decide +kernel)
theorem lk_X1_76 : xLk (.invokevirtual 76) (some 2) RX1 yX3_of 3 := xLk.V (r := (RX3, TX3, 8)) (hh := []) q789 q790 q791 q792 rfl ⟨by decide, by decide⟩ (by decide +kernel)
theorem lk_X1_100_X2 : xLk (.invokevirtual 100) (some 1) RX1 yX1_number 3 := xLk.VU (x := ⟨"TinFen$Scan", "number", "(II)I"⟩) (owner := "TinFen$Scan") (r := (RX2, TX2, 19)) q811 q813 q812 q815 ⟨by decide, by decide⟩ q814 q812 q815 rfl (by decide +kernel)
theorem lk_X1_96_X2 : xLk (.invokevirtual 96) (some 1) RX1 yX1_need 2 := xLk.VU (x := ⟨"TinFen$Scan", "need", "(Z)V"⟩) (owner := "TinFen$Scan") (r := (RX2, TX2, 19)) q816 q2256 q782 q783 ⟨by decide, by decide⟩ q2257 q782 q783 rfl (by decide +kernel)
theorem lk_X1_103_X2 : xLk (.invokevirtual 103) (some 1) RX1 yX1_is 2 := xLk.VU (x := ⟨"TinFen$Scan", "is", "(I)Z"⟩) (owner := "TinFen$Scan") (r := (RX2, TX2, 19)) q973 q975 q974 q977 ⟨by decide, by decide⟩ q976 q974 q977 rfl (by decide +kernel)
theorem lk_X0_23 : xLk (.invokespecial 23) (some 2) RX0 yX3_init 1 := xLk.I (host := "") rfl q246 q247 q248 ⟨by decide, by decide⟩ (by decide +kernel)
theorem lk_X0_24 : xLk (.invokespecial 24) (some 1) RX0 yX2_init 2 := xLk.I (host := "") rfl q279 q280 q281 ⟨by decide, by decide⟩ (by decide +kernel)
theorem lk_X0_33 : xLk (.invokespecial 33) (some 5) RX0 yX6_init 1 := xLk.IN rfl q378 q379 q380 ⟨by decide, by decide⟩ (by decide +kernel)
theorem lk_X0_82 : xLk (.invokespecial 82) (some 6) RX0 yX7_init 1 := xLk.IN rfl q439 q440 q441 ⟨by decide, by decide⟩ (by decide +kernel)
theorem lk_X0_100 : xLk (.invokestatic 100) none RX0 yX0_isTray 1 := xLk.S q571 q572 q153 q573 ⟨by decide, by decide⟩ (by decide +kernel)
theorem lk_X0_96 : xLk (.invokevirtual 96) (some 0) RX0 yX0_is 2 := xLk.V (r := (RX0, TX0, 25)) (hh := []) q574 q576 qs2 q577 rfl ⟨by decide, by decide⟩ (by decide +kernel)
theorem lk_X0_103 : xLk (.invokevirtual 103) (some 6) RX0 yX7_make 3 := xLk.V (r := (RX7, TX7, 2)) (hh := []) q578 q579 q580 q581 rfl ⟨by decide, by decide⟩ (by decide +kernel)
theorem lk_X0_109 : xLk (.invokevirtual 109) (some 6) RX0 yX7_set 3 := xLk.V (r := (RX7, TX7, 2)) (hh := []) q631 q632 q633 q634 rfl ⟨by decide, by decide⟩ (by decide +kernel)
theorem lk_X0_89 : xLk (.invokevirtual 89) (some 0) RX0 yX0_none 2 := xLk.V (r := (RX0, TX0, 25)) (hh := []) q643 q645 qs3 q646 rfl ⟨by decide, by decide⟩ (by decide +kernel)
theorem lk_X0_117 : xLk (.invokevirtual 117) (some 6) RX0 yX7_get 2 := xLk.V (r := (RX7, TX7, 2)) (hh := []) q647 q648 q649 q650 rfl ⟨by decide, by decide⟩ (by decide +kernel)
theorem lk_X0_154 : xLk (.invokevirtual 154) (some 0) RX0 yX0_four 2 := xLk.V (r := (RX0, TX0, 25)) (hh := []) q664 q666 qs4 q667 rfl ⟨by decide, by decide⟩ (by decide +kernel)
theorem lk_X0_168 : xLk (.invokevirtual 168) (some 0) RX0 yX0_accepts 3 := xLk.V (r := (RX0, TX0, 25)) (hh := []) q672 q674 qs5 q675 rfl ⟨by decide, by decide⟩ (by decide +kernel)
theorem lk_X0_171 : xLk (.invokevirtual 171) (some 1) RX0 yX2_fen 2 := xLk.V (r := (RX2, TX2, 19)) (hh := []) q676 q677 q678 q679 rfl ⟨by decide, by decide⟩ (by decide +kernel)
theorem lk_X0_174 : xLk (.invokevirtual 174) (some 0) RX0 yX0_refused 2 := xLk.V (r := (RX0, TX0, 25)) (hh := []) q978 q980 qs19 q981 rfl ⟨by decide, by decide⟩ (by decide +kernel)
theorem lk_X0_93 : xLk (.invokevirtual 93) (some 0) RX0 yX0_gives 2 := xLk.V (r := (RX0, TX0, 25)) (hh := []) q982 q984 qs20 q985 rfl ⟨by decide, by decide⟩ (by decide +kernel)
theorem lk_X0_185 : xLk (.invokevirtual 185) (some 1) RX0 yX2_years 3 := xLk.V (r := (RX2, TX2, 19)) (hh := []) q990 q991 q992 q993 rfl ⟨by decide, by decide⟩ (by decide +kernel)
theorem lk_X0_215 : xLk (.invokevirtual 215) (some 5) RX0 yX6_tinsOn 2 := xLk.V (r := (RX6, TX6, 10)) (hh := []) q1059 q1060 q1061 q1062 rfl ⟨by decide, by decide⟩ (by decide +kernel)
theorem lk_X0_218 : xLk (.invokevirtual 218) (some 5) RX0 yX6_found 1 := xLk.V (r := (RX6, TX6, 10)) (hh := []) q1063 q1064 q1065 q1066 rfl ⟨by decide, by decide⟩ (by decide +kernel)
theorem lk_X0_222 : xLk (.invokevirtual 222) (some 0) RX0 yX0_ofLead 1 := xLk.V (r := (RX0, TX0, 25)) (hh := []) q1067 q1069 qs25 q1070 rfl ⟨by decide, by decide⟩ (by decide +kernel)
theorem lk_X0_225 : xLk (.invokevirtual 225) (some 0) RX0 yX0_allTins 1 := xLk.V (r := (RX0, TX0, 25)) (hh := []) q1071 q1073 qs26 q1074 rfl ⟨by decide, by decide⟩ (by decide +kernel)
theorem lk_X0_228 : xLk (.invokevirtual 228) (some 5) RX0 yX6_worthOf 2 := xLk.V (r := (RX6, TX6, 10)) (hh := []) q1075 q1076 q1077 q1078 rfl ⟨by decide, by decide⟩ (by decide +kernel)
theorem lk_X0_231 : xLk (.invokevirtual 231) (some 0) RX0 yX0_isTrait 2 := xLk.V (r := (RX0, TX0, 25)) (hh := []) q1084 q1086 qs27 q1087 rfl ⟨by decide, by decide⟩ (by decide +kernel)
theorem lk_X0_237 : xLk (.invokevirtual 237) (some 0) RX0 yX0_isPerson 2 := xLk.V (r := (RX0, TX0, 25)) (hh := []) q1092 q1094 qs28 q1095 rfl ⟨by decide, by decide⟩ (by decide +kernel)
theorem lk_X0_256 : xLk (.invokevirtual 256) (some 0) RX0 yX0_isTin 2 := xLk.V (r := (RX0, TX0, 25)) (hh := []) q1100 q1102 qs29 q1103 rfl ⟨by decide, by decide⟩ (by decide +kernel)
theorem lk_X0_265 : xLk (.invokevirtual 265) (some 0) RX0 yX0_orNothing 2 := xLk.V (r := (RX0, TX0, 25)) (hh := []) q1104 q1106 qs30 q1107 rfl ⟨by decide, by decide⟩ (by decide +kernel)
theorem lk_X0_274 : xLk (.invokevirtual 274) (some 6) RX0 yX7_many 1 := xLk.V (r := (RX7, TX7, 2)) (hh := []) q1112 q1113 q1114 q1115 rfl ⟨by decide, by decide⟩ (by decide +kernel)
theorem lk_X0_277 : xLk (.invokevirtual 277) (some 5) RX0 yX6_passes 3 := xLk.V (r := (RX6, TX6, 10)) (hh := []) q1120 q1121 q1122 q1123 rfl ⟨by decide, by decide⟩ (by decide +kernel)
theorem lk_X0_279_X5 : xLk (.invokevirtual 279) (some 4) RX0 yX5_yields 2 := xLk.VU (x := ⟨"TinFen$Metal", "yields", "(LTinFen$Tin;)Z"⟩) (owner := "TinFen$Metal") (r := (RX5, TX5, 0)) q1140 q1143 q1141 q1148 ⟨by decide, by decide⟩ q1144 q1145 q1146 rfl (by decide +kernel)
theorem lk_X0_279 : xLk (.invokevirtual 279) (some 3) RX0 yX4_yields 2 := xLk.V (r := (RX4, TX4, 0)) (hh := []) q1140 q1141 q1142 q1148 rfl ⟨by decide, by decide⟩ (by decide +kernel)
theorem lk_X0_289 : xLk (.invokevirtual 289) (some 5) RX0 yX6_trueOf 2 := xLk.V (r := (RX6, TX6, 10)) (hh := []) q1153 q1133 q1134 q1135 rfl ⟨by decide, by decide⟩ (by decide +kernel)
theorem lk_X0_1 : xLk (.invokestatic 1) none RX0 yX0_isIn 2 := xLk.S q1154 q893 q153 q894 ⟨by decide, by decide⟩ (by decide +kernel)
theorem lk_X0_295 : xLk (.invokespecial 295) (some 9) RX0 yX10_init 3 := xLk.I (host := "") rfl q1164 q923 q924 ⟨by decide, by decide⟩ (by decide +kernel)
theorem lk_X0_298 : xLk (.invokevirtual 298) (some 5) RX0 yX6_strikes 4 := xLk.V (r := (RX6, TX6, 10)) (hh := []) q1165 q964 q965 q966 rfl ⟨by decide, by decide⟩ (by decide +kernel)
theorem lk_X0_302 : xLk (.invokevirtual 302) (some 5) RX0 yX6_teaches 4 := xLk.V (r := (RX6, TX6, 10)) (hh := []) q1170 q1171 q1172 q1173 rfl ⟨by decide, by decide⟩ (by decide +kernel)
theorem lk_X0_306 : xLk (.invokevirtual 306) (some 5) RX0 yX6_meets 3 := xLk.V (r := (RX6, TX6, 10)) (hh := []) q1178 q913 q914 q915 rfl ⟨by decide, by decide⟩ (by decide +kernel)
theorem lk_X0_147 : xLk (.invokestatic 147) none RX0 yX0_isFrom 3 := xLk.S q1184 q1185 q153 q1186 ⟨by decide, by decide⟩ (by decide +kernel)
theorem lk_X0_316 : xLk (.invokevirtual 316) (some 0) RX0 yX0_laysFar 3 := xLk.V (r := (RX0, TX0, 25)) (hh := []) q1196 q1198 qs31 q1199 rfl ⟨by decide, by decide⟩ (by decide +kernel)
theorem lk_X0_312 : xLk (.invokevirtual 312) (some 5) RX0 yX6_nextOf 3 := xLk.V (r := (RX6, TX6, 10)) (hh := []) q1200 q1129 q1130 q1131 rfl ⟨by decide, by decide⟩ (by decide +kernel)
theorem lk_X0_319 : xLk (.invokevirtual 319) (some 0) RX0 yX0_wrongTin 2 := xLk.V (r := (RX0, TX0, 25)) (hh := []) q1209 q1211 qs32 q1212 rfl ⟨by decide, by decide⟩ (by decide +kernel)
theorem lk_X0_329 : xLk (.invokevirtual 329) (some 0) RX0 yX0_laysRound 2 := xLk.V (r := (RX0, TX0, 25)) (hh := []) q1221 q1223 qs33 q1224 rfl ⟨by decide, by decide⟩ (by decide +kernel)
theorem lk_X0_325 : xLk (.invokevirtual 325) (some 0) RX0 yX0_goesRound 4 := xLk.V (r := (RX0, TX0, 25)) (hh := []) q1225 q1227 qs34 q1228 rfl ⟨by decide, by decide⟩ (by decide +kernel)
theorem lk_X0_349 : xLk (.invokevirtual 349) (some 0) RX0 yX0_wrongTins 2 := xLk.V (r := (RX0, TX0, 25)) (hh := []) q1237 q1239 qs35 q1240 rfl ⟨by decide, by decide⟩ (by decide +kernel)
theorem lk_X0_346 : xLk (.invokevirtual 346) (some 0) RX0 yX0_areTins 2 := xLk.V (r := (RX0, TX0, 25)) (hh := []) q1241 q1243 qs36 q1244 rfl ⟨by decide, by decide⟩ (by decide +kernel)
theorem lk_X0_335 : xLk (.invokevirtual 335) (some 0) RX0 yX0_mostOf 3 := xLk.V (r := (RX0, TX0, 25)) (hh := []) q1245 q1247 qs37 q1248 rfl ⟨by decide, by decide⟩ (by decide +kernel)
theorem lk_X0_332 : xLk (.invokestatic 332) none RX0 yX0_firstOf 1 := xLk.S q1249 q1250 q153 q1251 ⟨by decide, by decide⟩ (by decide +kernel)
theorem lk_X0_338 : xLk (.invokestatic 338) none RX0 yJ8_max 2 := xLk.S q1252 q1253 q171 q1254 ⟨by decide, by decide⟩ (by decide +kernel)
theorem lk_X0_343 : xLk (.invokevirtual 343) (some 0) RX0 yX0_givingsOf 3 := xLk.V (r := (RX0, TX0, 25)) (hh := []) q1259 q1261 qs38 q1262 rfl ⟨by decide, by decide⟩ (by decide +kernel)
theorem lk_X0_355 : xLk (.invokevirtual 355) (some 0) RX0 yX0_covering 1 := xLk.V (r := (RX0, TX0, 25)) (hh := []) q1271 q1273 qs39 q1274 rfl ⟨by decide, by decide⟩ (by decide +kernel)
theorem lk_X0_352 : xLk (.invokestatic 352) none RX0 yX0_bits 1 := xLk.S q1275 q1276 q153 q1277 ⟨by decide, by decide⟩ (by decide +kernel)
theorem lk_X0_358 : xLk (.invokevirtual 358) (some 0) RX0 yX0_blaming 1 := xLk.V (r := (RX0, TX0, 25)) (hh := []) q1286 q1288 qs40 q1289 rfl ⟨by decide, by decide⟩ (by decide +kernel)
theorem lk_X0_364 : xLk (.invokevirtual 364) (some 0) RX0 yX0_wheelsFrom 5 := xLk.V (r := (RX0, TX0, 25)) (hh := []) q1300 q1302 qs41 q1303 rfl ⟨by decide, by decide⟩ (by decide +kernel)
theorem lk_X0_361 : xLk (.invokevirtual 361) (some 0) RX0 yX0_passesTo 2 := xLk.V (r := (RX0, TX0, 25)) (hh := []) q1304 q1306 qs42 q1307 rfl ⟨by decide, by decide⟩ (by decide +kernel)
theorem lk_X0_378 : xLk (.invokevirtual 378) (some 0) RX0 yX0_wrongSeen 3 := xLk.V (r := (RX0, TX0, 25)) (hh := []) q1312 q1314 qs43 q1315 rfl ⟨by decide, by decide⟩ (by decide +kernel)
theorem lk_X0_381 : xLk (.invokevirtual 381) (some 0) RX0 yX0_seenMany 3 := xLk.V (r := (RX0, TX0, 25)) (hh := []) q1317 q1319 qs44 q1320 rfl ⟨by decide, by decide⟩ (by decide +kernel)
theorem lk_X0_374 : xLk (.invokevirtual 374) (some 0) RX0 yX0_isSeen 4 := xLk.V (r := (RX0, TX0, 25)) (hh := []) q1321 q1323 qs45 q1324 rfl ⟨by decide, by decide⟩ (by decide +kernel)
theorem lk_X0_384 : xLk (.invokevirtual 384) (some 0) RX0 yX0_mostAlike 4 := xLk.V (r := (RX0, TX0, 25)) (hh := []) q1333 q1335 qs46 q1336 rfl ⟨by decide, by decide⟩ (by decide +kernel)
theorem lk_X0_407 : xLk (.invokevirtual 407) (some 0) RX0 yX0_wrongGame 5 := xLk.V (r := (RX0, TX0, 25)) (hh := []) q1341 q1343 qs47 q1344 rfl ⟨by decide, by decide⟩ (by decide +kernel)
theorem lk_X0_410 : xLk (.invokevirtual 410) (some 0) RX0 yX0_playing 4 := xLk.V (r := (RX0, TX0, 25)) (hh := []) q1346 q1348 qs48 q1349 rfl ⟨by decide, by decide⟩ (by decide +kernel)
theorem lk_X0_401 : xLk (.invokevirtual 401) (some 5) RX0 yX6_twin 1 := xLk.V (r := (RX6, TX6, 10)) (hh := []) q1350 q1351 q1352 q1353 rfl ⟨by decide, by decide⟩ (by decide +kernel)
theorem lk_X0_398 : xLk (.invokevirtual 398) (some 0) RX0 yX0_plays 5 := xLk.V (r := (RX0, TX0, 25)) (hh := []) q1383 q1385 qs49 q1386 rfl ⟨by decide, by decide⟩ (by decide +kernel)
theorem lk_X0_391 : xLk (.invokevirtual 391) (some 5) RX0 yX6_canPass 3 := xLk.V (r := (RX6, TX6, 10)) (hh := []) q1387 q1125 q1126 q1127 rfl ⟨by decide, by decide⟩ (by decide +kernel)
theorem lk_X0_394 : xLk (.invokevirtual 394) (some 5) RX0 yX6_takes 2 := xLk.V (r := (RX6, TX6, 10)) (hh := []) q1388 q1378 q1379 q1380 rfl ⟨by decide, by decide⟩ (by decide +kernel)
theorem lk_X0_415 : xLk (.invokevirtual 415) (some 0) RX0 yX0_tell 3 := xLk.V (r := (RX0, TX0, 25)) (hh := []) q1398 q1400 qs50 q1401 rfl ⟨by decide, by decide⟩ (by decide +kernel)
theorem lk_X0_475 : xLk (.invokevirtual 475) (some 0) RX0 yX0_livesBy 2 := xLk.V (r := (RX0, TX0, 25)) (hh := []) q1411 q1413 qs51 q1414 rfl ⟨by decide, by decide⟩ (by decide +kernel)
theorem lk_X0_460 : xLk (.invokevirtual 460) (some 5) RX0 yX6_allGot 1 := xLk.V (r := (RX6, TX6, 10)) (hh := []) q1415 q1416 q1417 q1418 rfl ⟨by decide, by decide⟩ (by decide +kernel)
theorem lk_X0_463 : xLk (.invokevirtual 463) (some 0) RX0 yX0_does 2 := xLk.V (r := (RX0, TX0, 25)) (hh := []) q1419 q1421 qs52 q1422 rfl ⟨by decide, by decide⟩ (by decide +kernel)
theorem lk_X0_426 : xLk (.invokevirtual 426) (some 0) RX0 yX0_passesOn 3 := xLk.V (r := (RX0, TX0, 25)) (hh := []) q1423 q1425 qs53 q1426 rfl ⟨by decide, by decide⟩ (by decide +kernel)
theorem lk_X0_438 : xLk (.invokevirtual 438) (some 0) RX0 yX0_bitesOn 2 := xLk.V (r := (RX0, TX0, 25)) (hh := []) q1427 q1429 qs54 q1430 rfl ⟨by decide, by decide⟩ (by decide +kernel)
theorem lk_X0_423 : xLk (.invokevirtual 423) (some 0) RX0 yX0_draw 2 := xLk.V (r := (RX0, TX0, 25)) (hh := []) q1431 q1433 qs55 q1434 rfl ⟨by decide, by decide⟩ (by decide +kernel)
theorem lk_X0_441 : xLk (.invokevirtual 441) (some 0) RX0 yX0_passesAny 1 := xLk.V (r := (RX0, TX0, 25)) (hh := []) q1436 q1438 qs56 q1439 rfl ⟨by decide, by decide⟩ (by decide +kernel)
theorem lk_X0_467 : xLk (.invokevirtual 467) (some 0) RX0 yX0_holds 2 := xLk.V (r := (RX0, TX0, 25)) (hh := []) q1440 q1442 qs57 q1443 rfl ⟨by decide, by decide⟩ (by decide +kernel)
theorem lk_X0_470 : xLk (.invokevirtual 470) (some 0) RX0 yX0_behindEnds 2 := xLk.V (r := (RX0, TX0, 25)) (hh := []) q1444 q1446 qs58 q1447 rfl ⟨by decide, by decide⟩ (by decide +kernel)
theorem lk_X0_486 : xLk (.invokespecial 486) (some 11) RX0 yX12_init 4 := xLk.I (host := "") rfl q1462 q1463 q1464 ⟨by decide, by decide⟩ (by decide +kernel)
theorem lk_X5_3 : xLk (.invokespecial 3) (some 4) RX5 yX4_init 1 := xLk.IN rfl q301 q291 q292 ⟨by decide, by decide⟩ (by decide +kernel)
theorem lk_X5_9 : xLk (.invokespecial 9) (some 4) RX5 yX4_yields 2 := xLk.SU q1147 q1143 q302 q1141 q1148 (by decide) (by decide +kernel)
theorem lk_X8_66 : xLk (.invokevirtual 66) (some 7) RX8 yX8_empties 2 := xLk.V (r := (RX8, TX8, 47)) (hh := []) q1489 q1491 qs59 q1492 rfl ⟨by decide, by decide⟩ (by decide +kernel)
theorem lk_X8_85 : xLk (.invokevirtual 85) (some 7) RX8 yX8_no 2 := xLk.V (r := (RX8, TX8, 47)) (hh := []) q1652 q1654 qs60 q1655 rfl ⟨by decide, by decide⟩ (by decide +kernel)
theorem lk_X8_93 : xLk (.invokevirtual 93) (some 7) RX8 yX8_placed 3 := xLk.V (r := (RX8, TX8, 47)) (hh := []) q1660 q1662 qs61 q1663 rfl ⟨by decide, by decide⟩ (by decide +kernel)
theorem lk_X8_89 : xLk (.invokevirtual 89) (some 7) RX8 yX8_trayed 2 := xLk.V (r := (RX8, TX8, 47)) (hh := []) q1664 q1666 qs62 q1667 rfl ⟨by decide, by decide⟩ (by decide +kernel)
theorem lk_X8_97 : xLk (.invokestatic 97) none RX8 yX8_cut 2 := xLk.S q1668 q1669 q164 q1670 ⟨by decide, by decide⟩ (by decide +kernel)
theorem lk_X8_221 : xLk (.invokevirtual 221) (some 7) RX8 yX8_lay 2 := xLk.V (r := (RX8, TX8, 47)) (hh := []) q1684 q1686 qs63 q1687 rfl ⟨by decide, by decide⟩ (by decide +kernel)
theorem lk_X8_283 : xLk (.invokevirtual 283) (some 7) RX8 yX8_starts 3 := xLk.V (r := (RX8, TX8, 47)) (hh := []) q1696 q1698 qs64 q1699 rfl ⟨by decide, by decide⟩ (by decide +kernel)
theorem lk_X8_212 : xLk (.invokevirtual 212) (some 7) RX8 yX8_advance 1 := xLk.V (r := (RX8, TX8, 47)) (hh := []) q1700 q1702 qs65 q1703 rfl ⟨by decide, by decide⟩ (by decide +kernel)
theorem lk_X8_122 : xLk (.invokevirtual 122) (some 7) RX8 yX8_look2 2 := xLk.V (r := (RX8, TX8, 47)) (hh := []) q1704 q1706 qs66 q1707 rfl ⟨by decide, by decide⟩ (by decide +kernel)
theorem lk_X8_128 : xLk (.invokestatic 128) none RX8 yX8_isLetter 1 := xLk.S q1708 q1709 q164 q1710 ⟨by decide, by decide⟩ (by decide +kernel)
theorem lk_X8_141 : xLk (.invokestatic 141) none RX8 yX8_isDigit 1 := xLk.S q1713 q1714 q164 q1715 ⟨by decide, by decide⟩ (by decide +kernel)
theorem lk_X8_147 : xLk (.invokevirtual 147) (some 7) RX8 yX8_isSignByte 2 := xLk.V (r := (RX8, TX8, 47)) (hh := []) q1716 q1718 qs67 q1719 rfl ⟨by decide, by decide⟩ (by decide +kernel)
theorem lk_X8_286 : xLk (.invokevirtual 286) (some 7) RX8 yX8_readPart 1 := xLk.V (r := (RX8, TX8, 47)) (hh := []) q1720 q1722 qs68 q1723 rfl ⟨by decide, by decide⟩ (by decide +kernel)
theorem lk_X8_162 : xLk (.invokevirtual 162) (some 7) RX8 yX8_isOdds 1 := xLk.V (r := (RX8, TX8, 47)) (hh := []) q1724 q1726 qs69 q1727 rfl ⟨by decide, by decide⟩ (by decide +kernel)
theorem lk_X8_150 : xLk (.invokestatic 150) none RX8 yX8_spelled 6 := xLk.S q1728 q1729 q164 q1730 ⟨by decide, by decide⟩ (by decide +kernel)
theorem lk_X8_154 : xLk (.invokevirtual 154) (some 7) RX8 yX8_isWord 2 := xLk.V (r := (RX8, TX8, 47)) (hh := []) q1731 q1733 qs70 q1734 rfl ⟨by decide, by decide⟩ (by decide +kernel)
theorem lk_X8_268 : xLk (.invokevirtual 268) (some 7) RX8 yX8_readOdds 1 := xLk.V (r := (RX8, TX8, 47)) (hh := []) q1735 q1737 qs71 q1738 rfl ⟨by decide, by decide⟩ (by decide +kernel)
theorem lk_X8_208 : xLk (.invokevirtual 208) (some 7) RX8 yX8_fail 3 := xLk.V (r := (RX8, TX8, 47)) (hh := []) q1739 q1741 qs72 q1742 rfl ⟨by decide, by decide⟩ (by decide +kernel)
theorem lk_X8_247 : xLk (.invokevirtual 247) (some 7) RX8 yX8_count 3 := xLk.V (r := (RX8, TX8, 47)) (hh := []) q1743 q1745 qs73 q1746 rfl ⟨by decide, by decide⟩ (by decide +kernel)
theorem lk_X8_215 : xLk (.invokevirtual 215) (some 7) RX8 yX8_amiss 1 := xLk.V (r := (RX8, TX8, 47)) (hh := []) q1747 q1749 qs74 q1750 rfl ⟨by decide, by decide⟩ (by decide +kernel)
theorem lk_X8_105 : xLk (.invokestatic 105) none RX8 yX8_isIn 3 := xLk.S q1751 q1752 q164 q1753 ⟨by decide, by decide⟩ (by decide +kernel)
theorem lk_X8_165 : xLk (.invokevirtual 165) (some 7) RX8 yX8_isTrait 1 := xLk.V (r := (RX8, TX8, 47)) (hh := []) q1754 q1756 qs75 q1757 rfl ⟨by decide, by decide⟩ (by decide +kernel)
theorem lk_X8_271 : xLk (.invokevirtual 271) (some 7) RX8 yX8_readTrait 1 := xLk.V (r := (RX8, TX8, 47)) (hh := []) q1758 q1760 qs76 q1761 rfl ⟨by decide, by decide⟩ (by decide +kernel)
theorem lk_X8_250 : xLk (.invokevirtual 250) (some 7) RX8 yX8_readNew 3 := xLk.V (r := (RX8, TX8, 47)) (hh := []) q1762 q1764 qs77 q1765 rfl ⟨by decide, by decide⟩ (by decide +kernel)
theorem lk_X8_227 : xLk (.invokevirtual 227) (some 7) RX8 yX8_isName 1 := xLk.V (r := (RX8, TX8, 47)) (hh := []) q1766 q1768 qs78 q1769 rfl ⟨by decide, by decide⟩ (by decide +kernel)
theorem lk_X8_199 : xLk (.invokevirtual 199) (some 7) RX8 yX8_isKept 1 := xLk.V (r := (RX8, TX8, 47)) (hh := []) q1770 q1772 qs79 q1773 rfl ⟨by decide, by decide⟩ (by decide +kernel)
theorem lk_X8_168 : xLk (.invokevirtual 168) (some 7) RX8 yX8_isWorth 1 := xLk.V (r := (RX8, TX8, 47)) (hh := []) q1774 q1776 qs80 q1777 rfl ⟨by decide, by decide⟩ (by decide +kernel)
theorem lk_X8_171 : xLk (.invokevirtual 171) (some 7) RX8 yX8_isPerson 1 := xLk.V (r := (RX8, TX8, 47)) (hh := []) q1778 q1780 qs81 q1781 rfl ⟨by decide, by decide⟩ (by decide +kernel)
theorem lk_X8_174 : xLk (.invokevirtual 174) (some 7) RX8 yX8_isIs 1 := xLk.V (r := (RX8, TX8, 47)) (hh := []) q1782 q1784 qs82 q1785 rfl ⟨by decide, by decide⟩ (by decide +kernel)
theorem lk_X8_177 : xLk (.invokevirtual 177) (some 7) RX8 yX8_isLane 1 := xLk.V (r := (RX8, TX8, 47)) (hh := []) q1786 q1788 qs83 q1789 rfl ⟨by decide, by decide⟩ (by decide +kernel)
theorem lk_X8_180 : xLk (.invokevirtual 180) (some 7) RX8 yX8_isTin 1 := xLk.V (r := (RX8, TX8, 47)) (hh := []) q1790 q1792 qs84 q1793 rfl ⟨by decide, by decide⟩ (by decide +kernel)
theorem lk_X8_183 : xLk (.invokevirtual 183) (some 7) RX8 yX8_isOf 1 := xLk.V (r := (RX8, TX8, 47)) (hh := []) q1794 q1796 qs85 q1797 rfl ⟨by decide, by decide⟩ (by decide +kernel)
theorem lk_X8_186 : xLk (.invokevirtual 186) (some 7) RX8 yX8_isLead 1 := xLk.V (r := (RX8, TX8, 47)) (hh := []) q1798 q1800 qs86 q1801 rfl ⟨by decide, by decide⟩ (by decide +kernel)
theorem lk_X8_189 : xLk (.invokevirtual 189) (some 7) RX8 yX8_stepWord 1 := xLk.V (r := (RX8, TX8, 47)) (hh := []) q1802 q1804 qs87 q1805 rfl ⟨by decide, by decide⟩ (by decide +kernel)
theorem lk_X8_193 : xLk (.invokevirtual 193) (some 7) RX8 yX8_testWord 1 := xLk.V (r := (RX8, TX8, 47)) (hh := []) q1806 q1808 qs88 q1809 rfl ⟨by decide, by decide⟩ (by decide +kernel)
theorem lk_X8_158 : xLk (.invokevirtual 158) (some 7) RX8 yX8_isOn 1 := xLk.V (r := (RX8, TX8, 47)) (hh := []) q1810 q1812 qs89 q1813 rfl ⟨by decide, by decide⟩ (by decide +kernel)
theorem lk_X8_196 : xLk (.invokevirtual 196) (some 7) RX8 yX8_isEnd 1 := xLk.V (r := (RX8, TX8, 47)) (hh := []) q1814 q1816 qs90 q1817 rfl ⟨by decide, by decide⟩ (by decide +kernel)
theorem lk_X8_230 : xLk (.invokevirtual 230) (some 7) RX8 yX8_named 3 := xLk.V (r := (RX8, TX8, 47)) (hh := []) q1818 q1820 qs91 q1821 rfl ⟨by decide, by decide⟩ (by decide +kernel)
theorem lk_X8_224 : xLk (.invokestatic 224) none RX8 yX8_namesFrom 1 := xLk.S q1822 q1823 q164 q1824 ⟨by decide, by decide⟩ (by decide +kernel)
theorem lk_X8_239 : xLk (.invokevirtual 239) (some 7) RX8 yX8_must 2 := xLk.V (r := (RX8, TX8, 47)) (hh := []) q1825 q1827 qs92 q1828 rfl ⟨by decide, by decide⟩ (by decide +kernel)
theorem lk_X8_274 : xLk (.invokevirtual 274) (some 7) RX8 yX8_readPerson 1 := xLk.V (r := (RX8, TX8, 47)) (hh := []) q1829 q1831 qs93 q1832 rfl ⟨by decide, by decide⟩ (by decide +kernel)
theorem lk_X8_253 : xLk (.invokevirtual 253) (some 7) RX8 yX8_perhaps 2 := xLk.V (r := (RX8, TX8, 47)) (hh := []) q1833 q1835 qs94 q1836 rfl ⟨by decide, by decide⟩ (by decide +kernel)
theorem lk_X8_236 : xLk (.invokevirtual 236) (some 7) RX8 yX8_told 3 := xLk.V (r := (RX8, TX8, 47)) (hh := []) q1837 q1839 qs95 q1840 rfl ⟨by decide, by decide⟩ (by decide +kernel)
theorem lk_X8_233 : xLk (.invokestatic 233) none RX8 yJ8_max 2 := xLk.S q1841 q1253 q171 q1254 ⟨by decide, by decide⟩ (by decide +kernel)
theorem lk_X8_109 : xLk (.invokestatic 109) none RX8 yX8_has 2 := xLk.S q1842 q1843 q164 q1844 ⟨by decide, by decide⟩ (by decide +kernel)
theorem lk_X8_277 : xLk (.invokevirtual 277) (some 7) RX8 yX8_readLane 1 := xLk.V (r := (RX8, TX8, 47)) (hh := []) q1845 q1847 qs96 q1848 rfl ⟨by decide, by decide⟩ (by decide +kernel)
theorem lk_X8_257 : xLk (.invokevirtual 257) (some 7) RX8 yX8_readTold 3 := xLk.V (r := (RX8, TX8, 47)) (hh := []) q1849 q1851 qs97 q1852 rfl ⟨by decide, by decide⟩ (by decide +kernel)
theorem lk_X8_260 : xLk (.invokevirtual 260) (some 7) RX8 yX8_meet 4 := xLk.V (r := (RX8, TX8, 47)) (hh := []) q1853 q1855 qs98 q1856 rfl ⟨by decide, by decide⟩ (by decide +kernel)
theorem lk_X8_280 : xLk (.invokevirtual 280) (some 7) RX8 yX8_readTin 1 := xLk.V (r := (RX8, TX8, 47)) (hh := []) q1857 q1859 qs99 q1860 rfl ⟨by decide, by decide⟩ (by decide +kernel)
theorem lk_X8_264 : xLk (.invokevirtual 264) (some 7) RX8 yX8_strikes 6 := xLk.V (r := (RX8, TX8, 47)) (hh := []) q1861 q1863 qs100 q1864 rfl ⟨by decide, by decide⟩ (by decide +kernel)
theorem lk_X8_289 : xLk (.invokevirtual 289) (some 7) RX8 yX8_isSign 2 := xLk.V (r := (RX8, TX8, 47)) (hh := []) q1865 q1867 qs101 q1868 rfl ⟨by decide, by decide⟩ (by decide +kernel)
theorem lk_X8_292 : xLk (.invokevirtual 292) (some 7) RX8 yX8_isWell 1 := xLk.V (r := (RX8, TX8, 47)) (hh := []) q1869 q1871 qs102 q1872 rfl ⟨by decide, by decide⟩ (by decide +kernel)
theorem lk_X8_295 : xLk (.invokevirtual 295) (some 7) RX8 yX8_copy 3 := xLk.V (r := (RX8, TX8, 47)) (hh := []) q1873 q1875 qs103 q1876 rfl ⟨by decide, by decide⟩ (by decide +kernel)
theorem lk_X8_307 : xLk (.invokevirtual 307) (some 7) RX8 yX8_readStep 2 := xLk.V (r := (RX8, TX8, 47)) (hh := []) q1881 q1883 qs104 q1884 rfl ⟨by decide, by decide⟩ (by decide +kernel)
theorem lk_X8_304 : xLk (.invokevirtual 304) (some 7) RX8 yX8_readRest 2 := xLk.V (r := (RX8, TX8, 47)) (hh := []) q1885 q1887 qs105 q1888 rfl ⟨by decide, by decide⟩ (by decide +kernel)
theorem lk_X8_298 : xLk (.invokevirtual 298) (some 7) RX8 yX8_readTest 2 := xLk.V (r := (RX8, TX8, 47)) (hh := []) q1889 q1891 qs106 q1892 rfl ⟨by decide, by decide⟩ (by decide +kernel)
theorem lk_X8_327 : xLk (.invokevirtual 327) (some 7) RX8 yX8_refuse 2 := xLk.V (r := (RX8, TX8, 47)) (hh := []) q1898 q1900 qs107 q1901 rfl ⟨by decide, by decide⟩ (by decide +kernel)
theorem lk_X8_319 : xLk (.invokevirtual 319) (some 7) RX8 yX8_tinsThat 2 := xLk.V (r := (RX8, TX8, 47)) (hh := []) q1902 q1904 qs108 q1905 rfl ⟨by decide, by decide⟩ (by decide +kernel)
theorem lk_X8_310 : xLk (.invokevirtual 310) (some 7) RX8 yX8_isGone 2 := xLk.V (r := (RX8, TX8, 47)) (hh := []) q1906 q1908 qs109 q1909 rfl ⟨by decide, by decide⟩ (by decide +kernel)
theorem lk_X8_330 : xLk (.invokevirtual 330) (some 7) RX8 yX8_allThere 1 := xLk.V (r := (RX8, TX8, 47)) (hh := []) q1910 q1912 qs110 q1913 rfl ⟨by decide, by decide⟩ (by decide +kernel)
theorem lk_X8_316 : xLk (.invokevirtual 316) (some 7) RX8 yX8_allTins 1 := xLk.V (r := (RX8, TX8, 47)) (hh := []) q1914 q1916 qs111 q1917 rfl ⟨by decide, by decide⟩ (by decide +kernel)
theorem lk_X8_322 : xLk (.invokevirtual 322) (some 7) RX8 yX8_worthAll 2 := xLk.V (r := (RX8, TX8, 47)) (hh := []) q1918 q1920 qs112 q1921 rfl ⟨by decide, by decide⟩ (by decide +kernel)
theorem lk_X8_313 : xLk (.invokevirtual 313) (some 7) RX8 yX8_worthOf 2 := xLk.V (r := (RX8, TX8, 47)) (hh := []) q1922 q1924 qs113 q1925 rfl ⟨by decide, by decide⟩ (by decide +kernel)
theorem lk_X8_333 : xLk (.invokevirtual 333) (some 7) RX8 yX8_isTraitAt 2 := xLk.V (r := (RX8, TX8, 47)) (hh := []) q1930 q1932 qs114 q1933 rfl ⟨by decide, by decide⟩ (by decide +kernel)
theorem lk_X8_336 : xLk (.invokevirtual 336) (some 7) RX8 yX8_isPersonAt 2 := xLk.V (r := (RX8, TX8, 47)) (hh := []) q1938 q1940 qs115 q1941 rfl ⟨by decide, by decide⟩ (by decide +kernel)
theorem lk_X8_341 : xLk (.invokevirtual 341) (some 7) RX8 yX8_tinsOn 2 := xLk.V (r := (RX8, TX8, 47)) (hh := []) q1943 q1945 qs116 q1946 rfl ⟨by decide, by decide⟩ (by decide +kernel)
theorem lk_X8_344 : xLk (.invokevirtual 344) (some 7) RX8 yX8_isTinAt 2 := xLk.V (r := (RX8, TX8, 47)) (hh := []) q1951 q1953 qs117 q1954 rfl ⟨by decide, by decide⟩ (by decide +kernel)
theorem lk_X8_347 : xLk (.invokevirtual 347) (some 7) RX8 yX8_isTray 2 := xLk.V (r := (RX8, TX8, 47)) (hh := []) q1959 q1961 qs118 q1962 rfl ⟨by decide, by decide⟩ (by decide +kernel)
theorem lk_X8_350 : xLk (.invokevirtual 350) (some 7) RX8 yX8_write 4 := xLk.V (r := (RX8, TX8, 47)) (hh := []) q1964 q1657 q1658 q1659 rfl ⟨by decide, by decide⟩ (by decide +kernel)
theorem lk_X8_360 : xLk (.invokevirtual 360) (some 7) RX8 yX8_passes 3 := xLk.V (r := (RX8, TX8, 47)) (hh := []) q1969 q1971 qs119 q1972 rfl ⟨by decide, by decide⟩ (by decide +kernel)
theorem lk_X8_357 : xLk (.invokevirtual 357) (some 7) RX8 yX8_nextOf 3 := xLk.V (r := (RX8, TX8, 47)) (hh := []) q1973 q1975 qs120 q1976 rfl ⟨by decide, by decide⟩ (by decide +kernel)
theorem lk_X8_354 : xLk (.invokevirtual 354) (some 7) RX8 yX8_isTrue 3 := xLk.V (r := (RX8, TX8, 47)) (hh := []) q1977 q1979 qs121 q1980 rfl ⟨by decide, by decide⟩ (by decide +kernel)
theorem lk_X8_363 : xLk (.invokevirtual 363) (some 7) RX8 yX8_finds 2 := xLk.V (r := (RX8, TX8, 47)) (hh := []) q1985 q1987 qs122 q1988 rfl ⟨by decide, by decide⟩ (by decide +kernel)
theorem lk_X8_366 : xLk (.invokevirtual 366) (some 7) RX8 yX8_teaches 4 := xLk.V (r := (RX8, TX8, 47)) (hh := []) q2005 q2007 qs123 q2008 rfl ⟨by decide, by decide⟩ (by decide +kernel)
theorem lk_X8_374 : xLk (.invokevirtual 374) (some 7) RX8 yX8_whyNoWay 3 := xLk.V (r := (RX8, TX8, 47)) (hh := []) q2027 q2029 qs124 q2030 rfl ⟨by decide, by decide⟩ (by decide +kernel)
theorem lk_X8_377 : xLk (.invokevirtual 377) (some 7) RX8 yX8_laysFar 3 := xLk.V (r := (RX8, TX8, 47)) (hh := []) q2031 q2033 qs125 q2034 rfl ⟨by decide, by decide⟩ (by decide +kernel)
theorem lk_X8_380 : xLk (.invokevirtual 380) (some 7) RX8 yX8_whyNoTin 2 := xLk.V (r := (RX8, TX8, 47)) (hh := []) q2043 q2045 qs126 q2046 rfl ⟨by decide, by decide⟩ (by decide +kernel)
theorem lk_X8_389 : xLk (.invokevirtual 389) (some 7) RX8 yX8_laysRound 2 := xLk.V (r := (RX8, TX8, 47)) (hh := []) q2055 q2057 qs127 q2058 rfl ⟨by decide, by decide⟩ (by decide +kernel)
theorem lk_X8_386 : xLk (.invokevirtual 386) (some 7) RX8 yX8_goesRound 4 := xLk.V (r := (RX8, TX8, 47)) (hh := []) q2059 q2061 qs128 q2062 rfl ⟨by decide, by decide⟩ (by decide +kernel)
theorem lk_X8_399 : xLk (.invokevirtual 399) (some 7) RX8 yX8_whyNoTins 2 := xLk.V (r := (RX8, TX8, 47)) (hh := []) q2071 q2073 qs129 q2074 rfl ⟨by decide, by decide⟩ (by decide +kernel)
theorem lk_X8_402 : xLk (.invokevirtual 402) (some 7) RX8 yX8_laysGivings 5 := xLk.V (r := (RX8, TX8, 47)) (hh := []) q2075 q2077 qs130 q2078 rfl ⟨by decide, by decide⟩ (by decide +kernel)
theorem lk_X8_392 : xLk (.invokevirtual 392) (some 7) RX8 yX8_laysTin 3 := xLk.V (r := (RX8, TX8, 47)) (hh := []) q2079 q2081 qs131 q2082 rfl ⟨by decide, by decide⟩ (by decide +kernel)
theorem lk_X8_396 : xLk (.invokestatic 396) none RX8 yX8_sizeOf 1 := xLk.S q2083 q2084 q164 q2085 ⟨by decide, by decide⟩ (by decide +kernel)
theorem lk_X8_406 : xLk (.invokevirtual 406) (some 7) RX8 yX8_covering 1 := xLk.V (r := (RX8, TX8, 47)) (hh := []) q2098 q2100 qs132 q2101 rfl ⟨by decide, by decide⟩ (by decide +kernel)
theorem lk_X8_409 : xLk (.invokevirtual 409) (some 7) RX8 yX8_blaming 1 := xLk.V (r := (RX8, TX8, 47)) (hh := []) q2110 q2112 qs133 q2113 rfl ⟨by decide, by decide⟩ (by decide +kernel)
theorem lk_X8_415 : xLk (.invokevirtual 415) (some 7) RX8 yX8_rolls 5 := xLk.V (r := (RX8, TX8, 47)) (hh := []) q2124 q2126 qs134 q2127 rfl ⟨by decide, by decide⟩ (by decide +kernel)
theorem lk_X8_412 : xLk (.invokevirtual 412) (some 7) RX8 yX8_canGive 3 := xLk.V (r := (RX8, TX8, 47)) (hh := []) q2128 q2130 qs135 q2131 rfl ⟨by decide, by decide⟩ (by decide +kernel)
theorem lk_X8_438 : xLk (.invokevirtual 438) (some 7) RX8 yX8_whyNoWhose 3 := xLk.V (r := (RX8, TX8, 47)) (hh := []) q2136 q2138 qs136 q2139 rfl ⟨by decide, by decide⟩ (by decide +kernel)
theorem lk_X8_426 : xLk (.invokevirtual 426) (some 7) RX8 yX8_numberOf 3 := xLk.V (r := (RX8, TX8, 47)) (hh := []) q2140 q2142 qs137 q2143 rfl ⟨by decide, by decide⟩ (by decide +kernel)
theorem lk_X8_441 : xLk (.invokevirtual 441) (some 7) RX8 yX8_laysWhose 3 := xLk.V (r := (RX8, TX8, 47)) (hh := []) q2145 q2147 qs138 q2148 rfl ⟨by decide, by decide⟩ (by decide +kernel)
theorem lk_X8_444 : xLk (.invokevirtual 444) (some 7) RX8 yX8_mostAlike 2 := xLk.V (r := (RX8, TX8, 47)) (hh := []) q2157 q2159 qs139 q2160 rfl ⟨by decide, by decide⟩ (by decide +kernel)
theorem lk_X8_453 : xLk (.invokevirtual 453) (some 7) RX8 yX8_whyNoGame 5 := xLk.V (r := (RX8, TX8, 47)) (hh := []) q2165 q2167 qs140 q2168 rfl ⟨by decide, by decide⟩ (by decide +kernel)
theorem lk_X8_447 : xLk (.invokevirtual 447) (some 7) RX8 yX8_plays 5 := xLk.V (r := (RX8, TX8, 47)) (hh := []) q2169 q2171 qs141 q2172 rfl ⟨by decide, by decide⟩ (by decide +kernel)
theorem lk_X8_456 : xLk (.invokevirtual 456) (some 7) RX8 yX8_fraction 3 := xLk.V (r := (RX8, TX8, 47)) (hh := []) q2181 q2183 qs142 q2184 rfl ⟨by decide, by decide⟩ (by decide +kernel)
theorem lk_X8_79 : xLk (.invokestatic 79) none RX8 yJ8_abs 1 := xLk.S q2185 q2186 q171 q2187 ⟨by decide, by decide⟩ (by decide +kernel)
theorem lk_X8_511 : xLk (.invokevirtual 511) (some 7) RX8 yX8_runsYears 2 := xLk.V (r := (RX8, TX8, 47)) (hh := []) q2197 q2199 qs143 q2200 rfl ⟨by decide, by decide⟩ (by decide +kernel)
theorem lk_X8_503 : xLk (.invokevirtual 503) (some 7) RX8 yX8_allGot 1 := xLk.V (r := (RX8, TX8, 47)) (hh := []) q2201 q2203 qs144 q2204 rfl ⟨by decide, by decide⟩ (by decide +kernel)
theorem lk_X8_494 : xLk (.invokevirtual 494) (some 7) RX8 yX8_doAll 3 := xLk.V (r := (RX8, TX8, 47)) (hh := []) q2205 q2207 qs145 q2208 rfl ⟨by decide, by decide⟩ (by decide +kernel)
theorem lk_X8_497 : xLk (.invokevirtual 497) (some 7) RX8 yX8_doOne 2 := xLk.V (r := (RX8, TX8, 47)) (hh := []) q2209 q2211 qs146 q2212 rfl ⟨by decide, by decide⟩ (by decide +kernel)
theorem lk_X8_488 : xLk (.invokevirtual 488) (some 7) RX8 yX8_does 2 := xLk.V (r := (RX8, TX8, 47)) (hh := []) q2213 q2215 qs147 q2216 rfl ⟨by decide, by decide⟩ (by decide +kernel)
theorem lk_X8_470 : xLk (.invokevirtual 470) (some 7) RX8 yX8_isBitten 2 := xLk.V (r := (RX8, TX8, 47)) (hh := []) q2217 q2219 qs148 q2220 rfl ⟨by decide, by decide⟩ (by decide +kernel)
theorem lk_X8_464 : xLk (.invokevirtual 464) (some 7) RX8 yX8_draw 2 := xLk.V (r := (RX8, TX8, 47)) (hh := []) q2221 q2223 qs149 q2224 rfl ⟨by decide, by decide⟩ (by decide +kernel)
theorem lk_X8_473 : xLk (.invokevirtual 473) (some 7) RX8 yX8_isAny 1 := xLk.V (r := (RX8, TX8, 47)) (hh := []) q2226 q2228 qs150 q2229 rfl ⟨by decide, by decide⟩ (by decide +kernel)
theorem lk_X8_491 : xLk (.invokevirtual 491) (some 7) RX8 yX8_isSo 2 := xLk.V (r := (RX8, TX8, 47)) (hh := []) q2230 q2232 qs151 q2233 rfl ⟨by decide, by decide⟩ (by decide +kernel)
theorem lk_X9_13 : xLk (.invokespecial 13) (some 8) RX9 yX9_init 2 := xLk.I (host := "") rfl q1362 q855 q856 ⟨by decide, by decide⟩ (by decide +kernel)
theorem lk_X9_16 : xLk (.invokevirtual 16) (some 8) RX9 yX9_takes 2 := xLk.V (r := (RX9, TX9, 4)) (hh := []) q1363 q1364 q1365 q1366 rfl ⟨by decide, by decide⟩ (by decide +kernel)
theorem lk_X2_7 : xLk (.invokespecial 7) (some 1) RX2 yX1_init 5 := xLk.I (host := "") rfl q284 q285 q286 ⟨by decide, by decide⟩ (by decide +kernel)
theorem lk_X2_15 : xLk (.invokespecial 15) (some 3) RX2 yX4_init 1 := xLk.IN rfl q290 q291 q292 ⟨by decide, by decide⟩ (by decide +kernel)
theorem lk_X2_26 : xLk (.invokespecial 26) (some 4) RX2 yX5_init 1 := xLk.IN rfl q298 q299 q300 ⟨by decide, by decide⟩ (by decide +kernel)
theorem lk_X2_83 : xLk (.invokespecial 83) (some 5) RX2 yX6_init 1 := xLk.IN rfl q681 q379 q380 ⟨by decide, by decide⟩ (by decide +kernel)
theorem lk_X2_87_X2 : xLk (.invokevirtual 87) (some 1) RX2 yX1_begin 2 := xLk.VU (x := ⟨"TinFen$Reader", "begin", "(I)V"⟩) (owner := "TinFen$Scan") (r := (RX2, TX2, 19)) q682 q683 q686 q687 ⟨by decide, by decide⟩ q685 q686 q687 rfl (by decide +kernel)
theorem lk_X2_91 : xLk (.invokevirtual 91) (some 1) RX2 yX2_part 1 := xLk.V (r := (RX2, TX2, 19)) (hh := []) q759 q761 qs6 q762 rfl ⟨by decide, by decide⟩ (by decide +kernel)
theorem lk_X2_34_X2 : xLk (.invokevirtual 34) (some 1) RX2 yX1_key 1 := xLk.VU (x := ⟨"TinFen$Reader", "key", "()I"⟩) (owner := "TinFen$Scan") (r := (RX2, TX2, 19)) q763 q764 q767 q768 ⟨by decide, by decide⟩ q766 q767 q768 rfl (by decide +kernel)
theorem lk_X2_38_X2 : xLk (.invokevirtual 38) (some 1) RX2 yX1_need 2 := xLk.VU (x := ⟨"TinFen$Reader", "need", "(Z)V"⟩) (owner := "TinFen$Scan") (r := (RX2, TX2, 19)) q778 q779 q782 q783 ⟨by decide, by decide⟩ q781 q782 q783 rfl (by decide +kernel)
theorem lk_X2_45_X2 : xLk (.invokevirtual 45) (some 1) RX2 yX1_fail 2 := xLk.VU (x := ⟨"TinFen$Reader", "fail", "(I)LTinFen$Wrong;"⟩) (owner := "TinFen$Scan") (r := (RX2, TX2, 19)) q793 q794 q785 q788 ⟨by decide, by decide⟩ q796 q785 q788 rfl (by decide +kernel)
theorem lk_X2_109 : xLk (.invokevirtual 109) (some 1) RX2 yX2_isFullOf 2 := xLk.V (r := (RX2, TX2, 19)) (hh := []) q797 q799 qs7 q800 rfl ⟨by decide, by decide⟩ (by decide +kernel)
theorem lk_X2_42_X2 : xLk (.invokevirtual 42) (some 1) RX2 yX1_next 1 := xLk.VU (x := ⟨"TinFen$Reader", "next", "()V"⟩) (owner := "TinFen$Scan") (r := (RX2, TX2, 19)) q801 q802 q689 q692 ⟨by decide, by decide⟩ q804 q689 q692 rfl (by decide +kernel)
theorem lk_X2_113_X2 : xLk (.invokevirtual 113) (some 1) RX2 yX1_passed 3 := xLk.VU (x := ⟨"TinFen$Reader", "passed", "(II)I"⟩) (owner := "TinFen$Scan") (r := (RX2, TX2, 19)) q805 q806 q809 q810 ⟨by decide, by decide⟩ q808 q809 q810 rfl (by decide +kernel)
theorem lk_X2_120 : xLk (.invokevirtual 120) (some 1) RX2 yX2_newName 1 := xLk.V (r := (RX2, TX2, 19)) (hh := []) q817 q819 qs8 q820 rfl ⟨by decide, by decide⟩ (by decide +kernel)
theorem lk_X2_63_X2 : xLk (.invokevirtual 63) (some 1) RX2 yX1_name 1 := xLk.VU (x := ⟨"TinFen$Reader", "name", "()J"⟩) (owner := "TinFen$Scan") (r := (RX2, TX2, 19)) q821 q822 q825 q826 ⟨by decide, by decide⟩ q824 q825 q826 rfl (by decide +kernel)
theorem lk_X2_141 : xLk (.invokevirtual 141) (some 5) RX2 yX6_isTaken 2 := xLk.V (r := (RX6, TX6, 10)) (hh := []) q828 q829 q830 q831 rfl ⟨by decide, by decide⟩ (by decide +kernel)
theorem lk_X2_123 : xLk (.invokevirtual 123) (some 1) RX2 yX2_aTrait 2 := xLk.V (r := (RX2, TX2, 19)) (hh := []) q844 q846 qs9 q847 rfl ⟨by decide, by decide⟩ (by decide +kernel)
theorem lk_X2_145 : xLk (.invokevirtual 145) (some 1) RX2 yX2_word 2 := xLk.V (r := (RX2, TX2, 19)) (hh := []) q848 q850 qs10 q851 rfl ⟨by decide, by decide⟩ (by decide +kernel)
theorem lk_X2_129 : xLk (.invokespecial 129) (some 8) RX2 yX9_init 2 := xLk.I (host := "") rfl q854 q855 q856 ⟨by decide, by decide⟩ (by decide +kernel)
theorem lk_X2_131 : xLk (.invokevirtual 131) (some 1) RX2 yX2_aPerson 2 := xLk.V (r := (RX2, TX2, 19)) (hh := []) q879 q881 qs11 q882 rfl ⟨by decide, by decide⟩ (by decide +kernel)
theorem lk_X2_155 : xLk (.invokevirtual 155) (some 1) RX2 yX2_isNext 2 := xLk.V (r := (RX2, TX2, 19)) (hh := []) q883 q885 qs12 q886 rfl ⟨by decide, by decide⟩ (by decide +kernel)
theorem lk_X2_158 : xLk (.invokevirtual 158) (some 1) RX2 yX2_isName 1 := xLk.V (r := (RX2, TX2, 19)) (hh := []) q887 q889 qs13 q890 rfl ⟨by decide, by decide⟩ (by decide +kernel)
theorem lk_X2_67 : xLk (.invokevirtual 67) (some 5) RX2 yX6_trait 2 := xLk.V (r := (RX6, TX6, 10)) (hh := []) q891 q833 q834 q835 rfl ⟨by decide, by decide⟩ (by decide +kernel)
theorem lk_X2_165 : xLk (.invokestatic 165) none RX2 yX0_isIn 2 := xLk.SN q892 q893 q153 q894 ⟨by decide, by decide⟩ (by decide +kernel)
theorem lk_X2_169 : xLk (.invokevirtual 169) (some 1) RX2 yX2_trait 1 := xLk.V (r := (RX2, TX2, 19)) (hh := []) q895 q897 qs14 q898 rfl ⟨by decide, by decide⟩ (by decide +kernel)
theorem lk_X2_73 : xLk (.invokevirtual 73) (some 1) RX2 yX2_known 2 := xLk.V (r := (RX2, TX2, 19)) (hh := []) q899 q901 qs15 q902 rfl ⟨by decide, by decide⟩ (by decide +kernel)
theorem lk_X2_135 : xLk (.invokevirtual 135) (some 1) RX2 yX2_aLane 1 := xLk.V (r := (RX2, TX2, 19)) (hh := []) q903 q905 qs16 q906 rfl ⟨by decide, by decide⟩ (by decide +kernel)
theorem lk_X2_175 : xLk (.invokevirtual 175) (some 1) RX2 yX2_person 1 := xLk.V (r := (RX2, TX2, 19)) (hh := []) q907 q909 qs17 q910 rfl ⟨by decide, by decide⟩ (by decide +kernel)
theorem lk_X2_77 : xLk (.invokevirtual 77) (some 5) RX2 yX6_person 2 := xLk.V (r := (RX6, TX6, 10)) (hh := []) q911 q837 q838 q839 rfl ⟨by decide, by decide⟩ (by decide +kernel)
theorem lk_X2_177 : xLk (.invokevirtual 177) (some 5) RX2 yX6_meets 3 := xLk.V (r := (RX6, TX6, 10)) (hh := []) q912 q913 q914 q915 rfl ⟨by decide, by decide⟩ (by decide +kernel)
theorem lk_X2_138 : xLk (.invokevirtual 138) (some 1) RX2 yX2_aTin 2 := xLk.V (r := (RX2, TX2, 19)) (hh := []) q916 q918 qs18 q919 rfl ⟨by decide, by decide⟩ (by decide +kernel)
theorem lk_X2_183 : xLk (.invokespecial 183) (some 9) RX2 yX10_init 3 := xLk.I (host := "") rfl q922 q923 q924 ⟨by decide, by decide⟩ (by decide +kernel)
theorem lk_X2_186 : xLk (.invokevirtual 186) (some 5) RX2 yX6_strikes 4 := xLk.V (r := (RX6, TX6, 10)) (hh := []) q963 q964 q965 q966 rfl ⟨by decide, by decide⟩ (by decide +kernel)
theorem lk_X2_94_X2 : xLk (.invokevirtual 94) (some 1) RX2 yX1_closes 1 := xLk.VU (x := ⟨"TinFen$Reader", "closes", "()V"⟩) (owner := "TinFen$Scan") (r := (RX2, TX2, 19)) q967 q968 q971 q972 ⟨by decide, by decide⟩ q970 q971 q972 rfl (by decide +kernel)
theorem lk_X2_205 : xLk (.invokevirtual 205) (some 1) RX2 yX2_step 1 := xLk.V (r := (RX2, TX2, 19)) (hh := []) q996 q998 qs21 q999 rfl ⟨by decide, by decide⟩ (by decide +kernel)
theorem lk_X2_234 : xLk (.invokespecial 234) (some 10) RX2 yX11_init 2 := xLk.I (host := "") rfl q1001 q1002 q1003 ⟨by decide, by decide⟩ (by decide +kernel)
theorem lk_X2_236 : xLk (.invokevirtual 236) (some 1) RX2 yX2_order 2 := xLk.V (r := (RX2, TX2, 19)) (hh := []) q1034 q1036 qs22 q1037 rfl ⟨by decide, by decide⟩ (by decide +kernel)
theorem lk_X2_211 : xLk (.invokevirtual 211) (some 1) RX2 yX2_tin 1 := xLk.V (r := (RX2, TX2, 19)) (hh := []) q1038 q1040 qs23 q1041 rfl ⟨by decide, by decide⟩ (by decide +kernel)
theorem lk_X2_80 : xLk (.invokevirtual 80) (some 5) RX2 yX6_tin 2 := xLk.V (r := (RX6, TX6, 10)) (hh := []) q1042 q841 q842 q843 rfl ⟨by decide, by decide⟩ (by decide +kernel)
theorem lk_X2_231 : xLk (.invokevirtual 231) (some 1) RX2 yX2_test 2 := xLk.V (r := (RX2, TX2, 19)) (hh := []) q1043 q1045 qs24 q1046 rfl ⟨by decide, by decide⟩ (by decide +kernel)
theorem lk_X2_219_X2 : xLk (.invokevirtual 219) (some 1) RX2 yX1_is 2 := xLk.VU (x := ⟨"TinFen$Reader", "is", "(I)Z"⟩) (owner := "TinFen$Scan") (r := (RX2, TX2, 19)) q1047 q1048 q974 q977 ⟨by decide, by decide⟩ q1050 q974 q977 rfl (by decide +kernel)
theorem lk_J9_9 : xLk (.invokestatic 9) none RJ9 yJ4_checkIndex 2 := xLk.S q732 q733 q166 q734 ⟨by decide, by decide⟩ (by decide +kernel)
theorem lk_L_9 : xLk (.invokespecial 9) (some 0) "TinFenLaw" yX0_init 1 := xLk.I (host := "") rfl q181 q182 q183 ⟨by decide, by decide⟩ (by decide +kernel)
theorem lk_L_13 : xLk (.invokevirtual 13) (some 0) "TinFenLaw" yX0_status 1 := xLk.V (r := (RX0, TX0, 25)) (hh := []) q528 q529 q530 q531 rfl ⟨by decide, by decide⟩ (by decide +kernel)
theorem lk_L_18 : xLk (.invokevirtual 18) (some 0) "TinFenLaw" yX0_top 1 := xLk.V (r := (RX0, TX0, 25)) (hh := []) q532 q533 q534 q535 rfl ⟨by decide, by decide⟩ (by decide +kernel)
theorem lk_L_23 : xLk (.invokevirtual 23) (some 0) "TinFenLaw" yX0_bottom 1 := xLk.V (r := (RX0, TX0, 25)) (hh := []) q536 q537 q538 q539 rfl ⟨by decide, by decide⟩ (by decide +kernel)
theorem lk_L_27 : xLk (.invokevirtual 27) (some 0) "TinFenLaw" yX0_tray 4 := xLk.VH (r := (RX0, TX0, 25)) q540 q541 q542 q543 rfl ⟨by decide, by decide⟩ (by decide +kernel)
theorem lk_L_34 : xLk (.invokevirtual 34) (some 0) "TinFenLaw" yX0_write 4 := xLk.VH (r := (RX0, TX0, 25)) q583 q584 q585 q586 rfl ⟨by decide, by decide⟩ (by decide +kernel)
theorem lk_L_39 : xLk (.invokevirtual 39) (some 0) "TinFenLaw" yX0_read 3 := xLk.VH (r := (RX0, TX0, 25)) q639 q640 q641 q642 rfl ⟨by decide, by decide⟩ (by decide +kernel)
theorem lk_L_44 : xLk (.invokevirtual 44) (some 0) "TinFenLaw" yX0_pour 6 := xLk.VH (r := (RX0, TX0, 25)) q652 q653 q654 q655 rfl ⟨by decide, by decide⟩ (by decide +kernel)
theorem lk_L_49 : xLk (.invokevirtual 49) (some 0) "TinFenLaw" yX0_feed 6 := xLk.V (r := (RX0, TX0, 25)) (hh := []) q660 q661 q662 q663 rfl ⟨by decide, by decide⟩ (by decide +kernel)
theorem lk_L_54 : xLk (.invokevirtual 54) (some 0) "TinFenLaw" yX0_fen 2 := xLk.VH (r := (RX0, TX0, 25)) q668 q669 q670 q671 rfl ⟨by decide, by decide⟩ (by decide +kernel)
theorem lk_L_59 : xLk (.invokevirtual 59) (some 0) "TinFenLaw" yX0_years 2 := xLk.VH (r := (RX0, TX0, 25)) q986 q987 q988 q989 rfl ⟨by decide, by decide⟩ (by decide +kernel)
theorem lk_L_63 : xLk (.invokevirtual 63) (some 0) "TinFenLaw" yX0_fault 2 := xLk.V (r := (RX0, TX0, 25)) (hh := []) q1051 q1052 q1053 q1054 rfl ⟨by decide, by decide⟩ (by decide +kernel)
theorem lk_L_67 : xLk (.invokevirtual 67) (some 0) "TinFenLaw" yX0_many 2 := xLk.V (r := (RX0, TX0, 25)) (hh := []) q1055 q1056 q1057 q1058 rfl ⟨by decide, by decide⟩ (by decide +kernel)
theorem lk_L_71 : xLk (.invokevirtual 71) (some 0) "TinFenLaw" yX0_worth 2 := xLk.V (r := (RX0, TX0, 25)) (hh := []) q1080 q1081 q1082 q1083 rfl ⟨by decide, by decide⟩ (by decide +kernel)
theorem lk_L_75 : xLk (.invokevirtual 75) (some 0) "TinFenLaw" yX0_person 3 := xLk.V (r := (RX0, TX0, 25)) (hh := []) q1088 q1089 q1090 q1091 rfl ⟨by decide, by decide⟩ (by decide +kernel)
theorem lk_L_80 : xLk (.invokevirtual 80) (some 0) "TinFenLaw" yX0_tin 3 := xLk.V (r := (RX0, TX0, 25)) (hh := []) q1096 q1097 q1098 q1099 rfl ⟨by decide, by decide⟩ (by decide +kernel)
theorem lk_L_84 : xLk (.invokevirtual 84) (some 0) "TinFenLaw" yX0_copyGot 2 := xLk.V (r := (RX0, TX0, 25)) (hh := []) q1108 q1109 q1110 q1111 rfl ⟨by decide, by decide⟩ (by decide +kernel)
theorem lk_L_88 : xLk (.invokevirtual 88) (some 0) "TinFenLaw" yX0_pass 3 := xLk.V (r := (RX0, TX0, 25)) (hh := []) q1116 q1117 q1118 q1119 rfl ⟨by decide, by decide⟩ (by decide +kernel)
theorem lk_L_92 : xLk (.invokevirtual 92) (some 0) "TinFenLaw" yX0_bite 2 := xLk.V (r := (RX0, TX0, 25)) (hh := []) q1136 q1137 q1138 q1139 rfl ⟨by decide, by decide⟩ (by decide +kernel)
theorem lk_L_96 : xLk (.invokevirtual 96) (some 0) "TinFenLaw" yX0_recite 3 := xLk.V (r := (RX0, TX0, 25)) (hh := []) q1149 q1150 q1151 q1152 rfl ⟨by decide, by decide⟩ (by decide +kernel)
theorem lk_L_101 : xLk (.invokevirtual 101) (some 0) "TinFenLaw" yX0_drop 2 := xLk.V (r := (RX0, TX0, 25)) (hh := []) q1155 q1156 q1157 q1158 rfl ⟨by decide, by decide⟩ (by decide +kernel)
theorem lk_L_105 : xLk (.invokevirtual 105) (some 0) "TinFenLaw" yX0_strike 4 := xLk.V (r := (RX0, TX0, 25)) (hh := []) q1159 q1160 q1161 q1162 rfl ⟨by decide, by decide⟩ (by decide +kernel)
theorem lk_L_110 : xLk (.invokevirtual 110) (some 0) "TinFenLaw" yX0_teach 4 := xLk.V (r := (RX0, TX0, 25)) (hh := []) q1166 q1167 q1168 q1169 rfl ⟨by decide, by decide⟩ (by decide +kernel)
theorem lk_L_115 : xLk (.invokevirtual 115) (some 0) "TinFenLaw" yX0_lane 3 := xLk.V (r := (RX0, TX0, 25)) (hh := []) q1174 q1175 q1176 q1177 rfl ⟨by decide, by decide⟩ (by decide +kernel)
theorem lk_L_119 : xLk (.invokevirtual 119) (some 0) "TinFenLaw" yX0_price 3 := xLk.V (r := (RX0, TX0, 25)) (hh := []) q1179 q1180 q1181 q1182 rfl ⟨by decide, by decide⟩ (by decide +kernel)
theorem lk_L_123 : xLk (.invokevirtual 123) (some 0) "TinFenLaw" yX0_rule 2 := xLk.V (r := (RX0, TX0, 25)) (hh := []) q1187 q1188 q1189 q1190 rfl ⟨by decide, by decide⟩ (by decide +kernel)
theorem lk_L_128 : xLk (.invokevirtual 128) (some 0) "TinFenLaw" yX0_way 3 := xLk.V (r := (RX0, TX0, 25)) (hh := []) q1192 q1193 q1194 q1195 rfl ⟨by decide, by decide⟩ (by decide +kernel)
theorem lk_L_132 : xLk (.invokevirtual 132) (some 0) "TinFenLaw" yX0_wayAt 4 := xLk.V (r := (RX0, TX0, 25)) (hh := []) q1201 q1202 q1203 q1204 rfl ⟨by decide, by decide⟩ (by decide +kernel)
theorem lk_L_137 : xLk (.invokevirtual 137) (some 0) "TinFenLaw" yX0_reach 2 := xLk.V (r := (RX0, TX0, 25)) (hh := []) q1205 q1206 q1207 q1208 rfl ⟨by decide, by decide⟩ (by decide +kernel)
theorem lk_L_141 : xLk (.invokevirtual 141) (some 0) "TinFenLaw" yX0_next 2 := xLk.V (r := (RX0, TX0, 25)) (hh := []) q1213 q1214 q1215 q1216 rfl ⟨by decide, by decide⟩ (by decide +kernel)
theorem lk_L_145 : xLk (.invokevirtual 145) (some 0) "TinFenLaw" yX0_round 2 := xLk.V (r := (RX0, TX0, 25)) (hh := []) q1217 q1218 q1219 q1220 rfl ⟨by decide, by decide⟩ (by decide +kernel)
theorem lk_L_149 : xLk (.invokevirtual 149) (some 0) "TinFenLaw" yX0_roundAt 3 := xLk.V (r := (RX0, TX0, 25)) (hh := []) q1229 q1230 q1231 q1232 rfl ⟨by decide, by decide⟩ (by decide +kernel)
theorem lk_L_153 : xLk (.invokevirtual 153) (some 0) "TinFenLaw" yX0_most 2 := xLk.V (r := (RX0, TX0, 25)) (hh := []) q1233 q1234 q1235 q1236 rfl ⟨by decide, by decide⟩ (by decide +kernel)
theorem lk_L_157 : xLk (.invokevirtual 157) (some 0) "TinFenLaw" yX0_givings 2 := xLk.V (r := (RX0, TX0, 25)) (hh := []) q1255 q1256 q1257 q1258 rfl ⟨by decide, by decide⟩ (by decide +kernel)
theorem lk_L_161 : xLk (.invokevirtual 161) (some 0) "TinFenLaw" yX0_given 3 := xLk.V (r := (RX0, TX0, 25)) (hh := []) q1263 q1264 q1265 q1266 rfl ⟨by decide, by decide⟩ (by decide +kernel)
theorem lk_L_165 : xLk (.invokevirtual 165) (some 0) "TinFenLaw" yX0_cover 1 := xLk.V (r := (RX0, TX0, 25)) (hh := []) q1267 q1268 q1269 q1270 rfl ⟨by decide, by decide⟩ (by decide +kernel)
theorem lk_L_169 : xLk (.invokevirtual 169) (some 0) "TinFenLaw" yX0_coverSet 1 := xLk.V (r := (RX0, TX0, 25)) (hh := []) q1278 q1279 q1280 q1281 rfl ⟨by decide, by decide⟩ (by decide +kernel)
theorem lk_L_173 : xLk (.invokevirtual 173) (some 0) "TinFenLaw" yX0_blamed 1 := xLk.V (r := (RX0, TX0, 25)) (hh := []) q1282 q1283 q1284 q1285 rfl ⟨by decide, by decide⟩ (by decide +kernel)
theorem lk_L_177 : xLk (.invokevirtual 177) (some 0) "TinFenLaw" yX0_blamedSet 1 := xLk.V (r := (RX0, TX0, 25)) (hh := []) q1290 q1291 q1292 q1293 rfl ⟨by decide, by decide⟩ (by decide +kernel)
theorem lk_L_181 : xLk (.invokevirtual 181) (some 0) "TinFenLaw" yX0_wheels 2 := xLk.V (r := (RX0, TX0, 25)) (hh := []) q1294 q1295 q1296 q1297 rfl ⟨by decide, by decide⟩ (by decide +kernel)
theorem lk_L_185 : xLk (.invokevirtual 185) (some 0) "TinFenLaw" yX0_whose 3 := xLk.V (r := (RX0, TX0, 25)) (hh := []) q1308 q1309 q1310 q1311 rfl ⟨by decide, by decide⟩ (by decide +kernel)
theorem lk_L_189 : xLk (.invokevirtual 189) (some 0) "TinFenLaw" yX0_sure 3 := xLk.V (r := (RX0, TX0, 25)) (hh := []) q1325 q1326 q1327 q1328 rfl ⟨by decide, by decide⟩ (by decide +kernel)
theorem lk_L_193 : xLk (.invokevirtual 193) (some 0) "TinFenLaw" yX0_ask 3 := xLk.V (r := (RX0, TX0, 25)) (hh := []) q1329 q1330 q1331 q1332 rfl ⟨by decide, by decide⟩ (by decide +kernel)
theorem lk_L_197 : xLk (.invokevirtual 197) (some 0) "TinFenLaw" yX0_game 4 := xLk.V (r := (RX0, TX0, 25)) (hh := []) q1337 q1338 q1339 q1340 rfl ⟨by decide, by decide⟩ (by decide +kernel)
theorem lk_L_201 : xLk (.invokevirtual 201) (some 0) "TinFenLaw" yX0_moveOf 5 := xLk.V (r := (RX0, TX0, 25)) (hh := []) q1389 q1390 q1391 q1392 rfl ⟨by decide, by decide⟩ (by decide +kernel)
theorem lk_L_206 : xLk (.invokevirtual 206) (some 0) "TinFenLaw" yX0_bites 3 := xLk.V (r := (RX0, TX0, 25)) (hh := []) q1393 q1394 q1395 q1396 rfl ⟨by decide, by decide⟩ (by decide +kernel)
theorem lk_L_210 : xLk (.invokevirtual 210) (some 0) "TinFenLaw" yX0_share 2 := xLk.V (r := (RX0, TX0, 25)) (hh := []) q1402 q1403 q1404 q1405 rfl ⟨by decide, by decide⟩ (by decide +kernel)
theorem lk_L_214 : xLk (.invokevirtual 214) (some 0) "TinFenLaw" yX0_live 2 := xLk.V (r := (RX0, TX0, 25)) (hh := []) q1406 q1407 q1408 q1409 rfl ⟨by decide, by decide⟩ (by decide +kernel)
theorem lk_L_218 : xLk (.invokevirtual 218) (some 0) "TinFenLaw" yX0_lived 2 := xLk.V (r := (RX0, TX0, 25)) (hh := []) q1448 q1449 q1450 q1451 rfl ⟨by decide, by decide⟩ (by decide +kernel)
theorem lk_L_222 : xLk (.invokevirtual 222) (some 0) "TinFenLaw" yX0_mean 3 := xLk.V (r := (RX0, TX0, 25)) (hh := []) q1452 q1453 q1454 q1455 rfl ⟨by decide, by decide⟩ (by decide +kernel)
theorem lk_L_226 : xLk (.invokevirtual 226) (some 0) "TinFenLaw" yX0_mark 1 := xLk.V (r := (RX0, TX0, 25)) (hh := []) q1457 q1458 q1459 q1460 rfl ⟨by decide, by decide⟩ (by decide +kernel)
theorem lk_L_230 : xLk (.invokevirtual 230) (some 0) "TinFenLaw" yX0_back 1 := xLk.V (r := (RX0, TX0, 25)) (hh := []) q1479 q1480 q1481 q1482 rfl ⟨by decide, by decide⟩ (by decide +kernel)
theorem lk_L_12 : xLk (.invokespecial 12) (some 7) "TinFenLaw" yX8_init 1 := xLk.I (host := "") rfl q1485 q1486 q1487 ⟨by decide, by decide⟩ (by decide +kernel)
theorem lk_L_17 : xLk (.invokevirtual 17) (some 7) "TinFenLaw" yX8_status 1 := xLk.V (r := (RX8, TX8, 47)) (hh := []) q1636 q1637 q1638 q1639 rfl ⟨by decide, by decide⟩ (by decide +kernel)
theorem lk_L_22 : xLk (.invokevirtual 22) (some 7) "TinFenLaw" yX8_top 1 := xLk.V (r := (RX8, TX8, 47)) (hh := []) q1640 q1641 q1642 q1643 rfl ⟨by decide, by decide⟩ (by decide +kernel)
theorem lk_L_26 : xLk (.invokevirtual 26) (some 7) "TinFenLaw" yX8_bottom 1 := xLk.V (r := (RX8, TX8, 47)) (hh := []) q1644 q1645 q1646 q1647 rfl ⟨by decide, by decide⟩ (by decide +kernel)
theorem lk_L_31 : xLk (.invokevirtual 31) (some 7) "TinFenLaw" yX8_tray 4 := xLk.V (r := (RX8, TX8, 47)) (hh := []) q1648 q1649 q1650 q1651 rfl ⟨by decide, by decide⟩ (by decide +kernel)
theorem lk_L_38 : xLk (.invokevirtual 38) (some 7) "TinFenLaw" yX8_write 4 := xLk.V (r := (RX8, TX8, 47)) (hh := []) q1656 q1657 q1658 q1659 rfl ⟨by decide, by decide⟩ (by decide +kernel)
theorem lk_L_43 : xLk (.invokevirtual 43) (some 7) "TinFenLaw" yX8_read 3 := xLk.V (r := (RX8, TX8, 47)) (hh := []) q1671 q1672 q1673 q1674 rfl ⟨by decide, by decide⟩ (by decide +kernel)
theorem lk_L_48 : xLk (.invokevirtual 48) (some 7) "TinFenLaw" yX8_pour 6 := xLk.V (r := (RX8, TX8, 47)) (hh := []) q1676 q1677 q1678 q1679 rfl ⟨by decide, by decide⟩ (by decide +kernel)
theorem lk_L_53 : xLk (.invokevirtual 53) (some 7) "TinFenLaw" yX8_feed 6 := xLk.V (r := (RX8, TX8, 47)) (hh := []) q1680 q1681 q1682 q1683 rfl ⟨by decide, by decide⟩ (by decide +kernel)
theorem lk_L_66 : xLk (.invokevirtual 66) (some 7) "TinFenLaw" yX8_fault 2 := xLk.V (r := (RX8, TX8, 47)) (hh := []) q1688 q1689 q1690 q1691 rfl ⟨by decide, by decide⟩ (by decide +kernel)
theorem lk_L_58 : xLk (.invokevirtual 58) (some 7) "TinFenLaw" yX8_fen 2 := xLk.V (r := (RX8, TX8, 47)) (hh := []) q1692 q1693 q1694 q1695 rfl ⟨by decide, by decide⟩ (by decide +kernel)
theorem lk_L_62 : xLk (.invokevirtual 62) (some 7) "TinFenLaw" yX8_years 2 := xLk.V (r := (RX8, TX8, 47)) (hh := []) q1877 q1878 q1879 q1880 rfl ⟨by decide, by decide⟩ (by decide +kernel)
theorem lk_L_70 : xLk (.invokevirtual 70) (some 7) "TinFenLaw" yX8_many 2 := xLk.V (r := (RX8, TX8, 47)) (hh := []) q1893 q1894 q1895 q1896 rfl ⟨by decide, by decide⟩ (by decide +kernel)
theorem lk_L_74 : xLk (.invokevirtual 74) (some 7) "TinFenLaw" yX8_worth 2 := xLk.V (r := (RX8, TX8, 47)) (hh := []) q1926 q1927 q1928 q1929 rfl ⟨by decide, by decide⟩ (by decide +kernel)
theorem lk_L_79 : xLk (.invokevirtual 79) (some 7) "TinFenLaw" yX8_person 3 := xLk.V (r := (RX8, TX8, 47)) (hh := []) q1934 q1935 q1936 q1937 rfl ⟨by decide, by decide⟩ (by decide +kernel)
theorem lk_L_83 : xLk (.invokevirtual 83) (some 7) "TinFenLaw" yX8_tin 3 := xLk.V (r := (RX8, TX8, 47)) (hh := []) q1947 q1948 q1949 q1950 rfl ⟨by decide, by decide⟩ (by decide +kernel)
theorem lk_L_87 : xLk (.invokevirtual 87) (some 7) "TinFenLaw" yX8_copyGot 2 := xLk.V (r := (RX8, TX8, 47)) (hh := []) q1955 q1956 q1957 q1958 rfl ⟨by decide, by decide⟩ (by decide +kernel)
theorem lk_L_91 : xLk (.invokevirtual 91) (some 7) "TinFenLaw" yX8_pass 3 := xLk.V (r := (RX8, TX8, 47)) (hh := []) q1965 q1966 q1967 q1968 rfl ⟨by decide, by decide⟩ (by decide +kernel)
theorem lk_L_95 : xLk (.invokevirtual 95) (some 7) "TinFenLaw" yX8_bite 2 := xLk.V (r := (RX8, TX8, 47)) (hh := []) q1981 q1982 q1983 q1984 rfl ⟨by decide, by decide⟩ (by decide +kernel)
theorem lk_L_100 : xLk (.invokevirtual 100) (some 7) "TinFenLaw" yX8_recite 3 := xLk.V (r := (RX8, TX8, 47)) (hh := []) q1989 q1990 q1991 q1992 rfl ⟨by decide, by decide⟩ (by decide +kernel)
theorem lk_L_104 : xLk (.invokevirtual 104) (some 7) "TinFenLaw" yX8_drop 2 := xLk.V (r := (RX8, TX8, 47)) (hh := []) q1993 q1994 q1995 q1996 rfl ⟨by decide, by decide⟩ (by decide +kernel)
theorem lk_L_109 : xLk (.invokevirtual 109) (some 7) "TinFenLaw" yX8_strike 4 := xLk.V (r := (RX8, TX8, 47)) (hh := []) q1997 q1998 q1999 q2000 rfl ⟨by decide, by decide⟩ (by decide +kernel)
theorem lk_L_114 : xLk (.invokevirtual 114) (some 7) "TinFenLaw" yX8_teach 4 := xLk.V (r := (RX8, TX8, 47)) (hh := []) q2001 q2002 q2003 q2004 rfl ⟨by decide, by decide⟩ (by decide +kernel)
theorem lk_L_118 : xLk (.invokevirtual 118) (some 7) "TinFenLaw" yX8_lane 3 := xLk.V (r := (RX8, TX8, 47)) (hh := []) q2009 q2010 q2011 q2012 rfl ⟨by decide, by decide⟩ (by decide +kernel)
theorem lk_L_122 : xLk (.invokevirtual 122) (some 7) "TinFenLaw" yX8_price 3 := xLk.V (r := (RX8, TX8, 47)) (hh := []) q2013 q2014 q2015 q2016 rfl ⟨by decide, by decide⟩ (by decide +kernel)
theorem lk_L_127 : xLk (.invokevirtual 127) (some 7) "TinFenLaw" yX8_rule 2 := xLk.V (r := (RX8, TX8, 47)) (hh := []) q2018 q2019 q2020 q2021 rfl ⟨by decide, by decide⟩ (by decide +kernel)
theorem lk_L_131 : xLk (.invokevirtual 131) (some 7) "TinFenLaw" yX8_way 3 := xLk.V (r := (RX8, TX8, 47)) (hh := []) q2023 q2024 q2025 q2026 rfl ⟨by decide, by decide⟩ (by decide +kernel)
theorem lk_L_136 : xLk (.invokevirtual 136) (some 7) "TinFenLaw" yX8_wayAt 4 := xLk.V (r := (RX8, TX8, 47)) (hh := []) q2035 q2036 q2037 q2038 rfl ⟨by decide, by decide⟩ (by decide +kernel)
theorem lk_L_140 : xLk (.invokevirtual 140) (some 7) "TinFenLaw" yX8_reach 2 := xLk.V (r := (RX8, TX8, 47)) (hh := []) q2039 q2040 q2041 q2042 rfl ⟨by decide, by decide⟩ (by decide +kernel)
theorem lk_L_144 : xLk (.invokevirtual 144) (some 7) "TinFenLaw" yX8_next 2 := xLk.V (r := (RX8, TX8, 47)) (hh := []) q2047 q2048 q2049 q2050 rfl ⟨by decide, by decide⟩ (by decide +kernel)
theorem lk_L_148 : xLk (.invokevirtual 148) (some 7) "TinFenLaw" yX8_round 2 := xLk.V (r := (RX8, TX8, 47)) (hh := []) q2051 q2052 q2053 q2054 rfl ⟨by decide, by decide⟩ (by decide +kernel)
theorem lk_L_152 : xLk (.invokevirtual 152) (some 7) "TinFenLaw" yX8_roundAt 3 := xLk.V (r := (RX8, TX8, 47)) (hh := []) q2063 q2064 q2065 q2066 rfl ⟨by decide, by decide⟩ (by decide +kernel)
theorem lk_L_156 : xLk (.invokevirtual 156) (some 7) "TinFenLaw" yX8_most 2 := xLk.V (r := (RX8, TX8, 47)) (hh := []) q2067 q2068 q2069 q2070 rfl ⟨by decide, by decide⟩ (by decide +kernel)
theorem lk_L_160 : xLk (.invokevirtual 160) (some 7) "TinFenLaw" yX8_givings 2 := xLk.V (r := (RX8, TX8, 47)) (hh := []) q2086 q2087 q2088 q2089 rfl ⟨by decide, by decide⟩ (by decide +kernel)
theorem lk_L_164 : xLk (.invokevirtual 164) (some 7) "TinFenLaw" yX8_given 3 := xLk.V (r := (RX8, TX8, 47)) (hh := []) q2090 q2091 q2092 q2093 rfl ⟨by decide, by decide⟩ (by decide +kernel)
theorem lk_L_168 : xLk (.invokevirtual 168) (some 7) "TinFenLaw" yX8_cover 1 := xLk.V (r := (RX8, TX8, 47)) (hh := []) q2094 q2095 q2096 q2097 rfl ⟨by decide, by decide⟩ (by decide +kernel)
theorem lk_L_172 : xLk (.invokevirtual 172) (some 7) "TinFenLaw" yX8_coverSet 1 := xLk.V (r := (RX8, TX8, 47)) (hh := []) q2102 q2103 q2104 q2105 rfl ⟨by decide, by decide⟩ (by decide +kernel)
theorem lk_L_176 : xLk (.invokevirtual 176) (some 7) "TinFenLaw" yX8_blamed 1 := xLk.V (r := (RX8, TX8, 47)) (hh := []) q2106 q2107 q2108 q2109 rfl ⟨by decide, by decide⟩ (by decide +kernel)
theorem lk_L_180 : xLk (.invokevirtual 180) (some 7) "TinFenLaw" yX8_blamedSet 1 := xLk.V (r := (RX8, TX8, 47)) (hh := []) q2114 q2115 q2116 q2117 rfl ⟨by decide, by decide⟩ (by decide +kernel)
theorem lk_L_184 : xLk (.invokevirtual 184) (some 7) "TinFenLaw" yX8_wheels 2 := xLk.V (r := (RX8, TX8, 47)) (hh := []) q2118 q2119 q2120 q2121 rfl ⟨by decide, by decide⟩ (by decide +kernel)
theorem lk_L_188 : xLk (.invokevirtual 188) (some 7) "TinFenLaw" yX8_whose 3 := xLk.V (r := (RX8, TX8, 47)) (hh := []) q2132 q2133 q2134 q2135 rfl ⟨by decide, by decide⟩ (by decide +kernel)
theorem lk_L_192 : xLk (.invokevirtual 192) (some 7) "TinFenLaw" yX8_sure 3 := xLk.V (r := (RX8, TX8, 47)) (hh := []) q2149 q2150 q2151 q2152 rfl ⟨by decide, by decide⟩ (by decide +kernel)
theorem lk_L_196 : xLk (.invokevirtual 196) (some 7) "TinFenLaw" yX8_ask 3 := xLk.V (r := (RX8, TX8, 47)) (hh := []) q2153 q2154 q2155 q2156 rfl ⟨by decide, by decide⟩ (by decide +kernel)
theorem lk_L_200 : xLk (.invokevirtual 200) (some 7) "TinFenLaw" yX8_game 4 := xLk.V (r := (RX8, TX8, 47)) (hh := []) q2161 q2162 q2163 q2164 rfl ⟨by decide, by decide⟩ (by decide +kernel)
theorem lk_L_205 : xLk (.invokevirtual 205) (some 7) "TinFenLaw" yX8_moveOf 5 := xLk.V (r := (RX8, TX8, 47)) (hh := []) q2173 q2174 q2175 q2176 rfl ⟨by decide, by decide⟩ (by decide +kernel)
theorem lk_L_209 : xLk (.invokevirtual 209) (some 7) "TinFenLaw" yX8_bites 3 := xLk.V (r := (RX8, TX8, 47)) (hh := []) q2177 q2178 q2179 q2180 rfl ⟨by decide, by decide⟩ (by decide +kernel)
theorem lk_L_213 : xLk (.invokevirtual 213) (some 7) "TinFenLaw" yX8_share 2 := xLk.V (r := (RX8, TX8, 47)) (hh := []) q2188 q2189 q2190 q2191 rfl ⟨by decide, by decide⟩ (by decide +kernel)
theorem lk_L_217 : xLk (.invokevirtual 217) (some 7) "TinFenLaw" yX8_live 2 := xLk.V (r := (RX8, TX8, 47)) (hh := []) q2192 q2193 q2194 q2195 rfl ⟨by decide, by decide⟩ (by decide +kernel)
theorem lk_L_221 : xLk (.invokevirtual 221) (some 7) "TinFenLaw" yX8_lived 2 := xLk.V (r := (RX8, TX8, 47)) (hh := []) q2234 q2235 q2236 q2237 rfl ⟨by decide, by decide⟩ (by decide +kernel)
theorem lk_L_225 : xLk (.invokevirtual 225) (some 7) "TinFenLaw" yX8_mean 3 := xLk.V (r := (RX8, TX8, 47)) (hh := []) q2238 q2239 q2240 q2241 rfl ⟨by decide, by decide⟩ (by decide +kernel)
theorem lk_L_229 : xLk (.invokevirtual 229) (some 7) "TinFenLaw" yX8_mark 1 := xLk.V (r := (RX8, TX8, 47)) (hh := []) q2243 q2244 q2245 q2246 rfl ⟨by decide, by decide⟩ (by decide +kernel)
theorem lk_L_233 : xLk (.invokevirtual 233) (some 7) "TinFenLaw" yX8_back 1 := xLk.V (r := (RX8, TX8, 47)) (hh := []) q2247 q2248 q2249 q2250 rfl ⟨by decide, by decide⟩ (by decide +kernel)
theorem lk_J4_495 : xLk (.invokestatic 495) none RJ4 yJ9_charAt 2 := xLk.S q729 q730 q172 q731 ⟨by decide, by decide⟩ (by decide +kernel)
theorem lk_J4_1059 : xLk (.invokestatic 1059) none RJ4 yJ10_checkIndex 3 := xLk.S q737 q738 q173 q739 ⟨by decide, by decide⟩ (by decide +kernel)
theorem lk_J4_498 : xLk (.invokestatic 498) none RJ4 yJ11_charAt 2 := xLk.S q740 q741 q174 q742 ⟨by decide, by decide⟩ (by decide +kernel)
theorem lk_X10_17 : xLk (.invokespecial 17) (some 9) RX10 yX10_init 3 := xLk.I (host := "") rfl q1372 q923 q924 ⟨by decide, by decide⟩ (by decide +kernel)
theorem lk_X10_24 : xLk (.invokevirtual 24) (some 9) RX10 yX10_takes 2 := xLk.V (r := (RX10, TX10, 7)) (hh := []) q1373 q1374 q1375 q1376 rfl ⟨by decide, by decide⟩ (by decide +kernel)
