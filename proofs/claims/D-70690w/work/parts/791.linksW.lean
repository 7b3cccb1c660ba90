/-! calls of methods with handlers, by number -/
theorem cwX0_289 : GoodIn lw_all (wsV RX0 289 RX0 yX0_holdNow (wsW_ yX0_holdNow cX0_holdNow 4 (some .int) [(7, 43, 76, 0), (52, 67, 76, 0)])) := lw_VW q892 q894 qs19 q80 q895
theorem cwX0_292 : GoodIn lw_all (wsV RX0 292 RX0 yX0_drawOf (wsW_ yX0_drawOf cX0_drawOf 7 (some .int) [(5, 67, 75, 0), (75, 77, 75, 0)])) := lw_VW q900 q902 qs20 q80 q903
theorem cwX0_295 : GoodIn lw_all (wsV RX0 295 RX0 yX0_hireBy (wsW_ yX0_hireBy cX0_hireBy 7 (some .int) [(28, 100, 116, 0), (116, 118, 116, 0)])) := lw_VW q908 q910 qs21 q80 q911
theorem cwX0_311 : GoodIn lw_all (wsV RX0 311 RX0 yX0_neverNow (wsW_ yX0_neverNow cX0_neverNow 4 (some .int) [(2, 45, 53, 0)])) := lw_VW q937 q939 qs24 q80 q940
theorem cwX0_314 : GoodIn lw_all (wsV RX0 314 RX0 yX0_sumsOf (wsW_ yX0_sumsOf cX0_sumsOf 7 (some .int) [(23, 109, 117, 0), (117, 119, 117, 0)])) := lw_VW q949 q951 qs26 q80 q952
theorem cwX0_317 : GoodIn lw_all (wsV RX0 317 RX0 yX0_ratesNow (wsW_ yX0_ratesNow cX0_ratesNow 4 (some .int) [(9, 62, 72, 0)])) := lw_VW q957 q959 qs27 q80 q960
theorem cwX0_341 : GoodIn lw_all (wsV RX0 341 RX0 yX0_peaceOf (wsW_ yX0_peaceOf cX0_peaceOf 10 (some .long) [(11, 106, 114, 0), (114, 116, 114, 0)])) := lw_VW q979 q981 qs30 q80 q982
theorem cwX0_358 : GoodIn lw_all (wsV RX0 358 RX0 yX0_termOf (wsW_ yX0_termOf cX0_termOf 7 (some .int) [(47, 75, 83, 0), (83, 85, 83, 0)])) := lw_VW q998 q1000 qs31 q80 q1001
theorem cw_law_134 : GoodIn lw_all (wsV R_lw 134 RX0 yX0_sheet (wsW_ yX0_sheet cX0_sheet 5 (some .int) [(28, 43, 44, 367)])) := lw_VW q1007 q1008 q1009 q80 q1010
theorem cw_law_142 : GoodIn lw_all (wsV R_lw 142 RX0 yX0_put (wsW_ yX0_put cX0_put 6 (some .int) [(40, 54, 55, 373), (40, 54, 63, 375)])) := lw_VW q1048 q1049 q1050 q80 q1051
theorem cw_law_147 : GoodIn lw_all (wsV R_lw 147 RX0 yX0_get (wsW_ yX0_get cX0_get 5 (some .int) [(40, 51, 52, 373), (40, 51, 60, 375)])) := lw_VW q1089 q1090 q1091 q80 q1092
theorem cw_law_151 : GoodIn lw_all (wsV R_lw 151 RX0 yX0_copy (wsW_ yX0_copy cX0_copy 7 (some .int) [(74, 101, 102, 386)])) := lw_VW q1098 q1099 q1100 q80 q1101
