set_option maxRecDepth 100000
theorem xpm_0 (pc : Nat) : xp 0 pc = xp_0.lookup pc := rfl
theorem xdm_0 : (xd 0).2.2.1 = 8 := rfl
theorem xpm_1 (pc : Nat) : xp 1 pc = xp_1.lookup pc := rfl
theorem xdm_1 : (xd 1).2.2.1 = 1 := rfl
theorem xpm_2 (pc : Nat) : xp 2 pc = xp_2.lookup pc := rfl
theorem xdm_2 : (xd 2).2.2.1 = 1 := rfl
theorem xpm_3 (pc : Nat) : xp 3 pc = xp_3.lookup pc := rfl
theorem xdm_3 : (xd 3).2.2.1 = 7 := rfl
theorem xpm_4 (pc : Nat) : xp 4 pc = xp_4.lookup pc := rfl
theorem xdm_4 : (xd 4).2.2.1 = 3 := rfl
theorem xpm_5 (pc : Nat) : xp 5 pc = xp_5.lookup pc := rfl
theorem xdm_5 : (xd 5).2.2.1 = 2 := rfl
theorem xpm_6 (pc : Nat) : xp 6 pc = xp_6.lookup pc := rfl
theorem xdm_6 : (xd 6).2.2.1 = 3 := rfl
theorem xpm_7 (pc : Nat) : xp 7 pc = xp_7.lookup pc := rfl
theorem xdm_7 : (xd 7).2.2.1 = 2 := rfl
theorem xpm_8 (pc : Nat) : xp 8 pc = xp_8.lookup pc := rfl
theorem xdm_8 : (xd 8).2.2.1 = 2 := rfl
theorem xpm_9 (pc : Nat) : xp 9 pc = xp_9.lookup pc := rfl
theorem xdm_9 : (xd 9).2.2.1 = 3 := rfl
theorem xpm_10 (pc : Nat) : xp 10 pc = xp_10.lookup pc := rfl
theorem xdm_10 : (xd 10).2.2.1 = 2 := rfl
theorem xpm_11 (pc : Nat) : xp 11 pc = xp_11.lookup pc := rfl
theorem xdm_11 : (xd 11).2.2.1 = 1 := rfl
theorem xpm_12 (pc : Nat) : xp 12 pc = xp_12.lookup pc := rfl
theorem xdm_12 : (xd 12).2.2.1 = 1 := rfl
theorem xpm_13 (pc : Nat) : xp 13 pc = xp_13.lookup pc := rfl
theorem xdm_13 : (xd 13).2.2.1 = 6 := rfl
theorem xpm_14 (pc : Nat) : xp 14 pc = xp_14.lookup pc := rfl
theorem xdm_14 : (xd 14).2.2.1 = 3 := rfl
theorem xpm_15 (pc : Nat) : xp 15 pc = xp_15.lookup pc := rfl
theorem xdm_15 : (xd 15).2.2.1 = 4 := rfl
theorem xpm_16 (pc : Nat) : xp 16 pc = xp_16.lookup pc := rfl
theorem xdm_16 : (xd 16).2.2.1 = 2 := rfl
theorem xpm_17 (pc : Nat) : xp 17 pc = xp_17.lookup pc := rfl
theorem xdm_17 : (xd 17).2.2.1 = 4 := rfl
theorem xpm_18 (pc : Nat) : xp 18 pc = xp_18.lookup pc := rfl
theorem xdm_18 : (xd 18).2.2.1 = 5 := rfl
theorem xpm_19 (pc : Nat) : xp 19 pc = xp_19.lookup pc := rfl
theorem xdm_19 : (xd 19).2.2.1 = 1 := rfl
theorem xpm_20 (pc : Nat) : xp 20 pc = xp_20.lookup pc := rfl
theorem xdm_20 : (xd 20).2.2.1 = 4 := rfl
theorem xpm_21 (pc : Nat) : xp 21 pc = xp_21.lookup pc := rfl
theorem xdm_21 : (xd 21).2.2.1 = 2 := rfl
theorem xpm_22 (pc : Nat) : xp 22 pc = xp_22.lookup pc := rfl
theorem xdm_22 : (xd 22).2.2.1 = 5 := rfl
theorem xpm_23 (pc : Nat) : xp 23 pc = xp_23.lookup pc := rfl
theorem xdm_23 : (xd 23).2.2.1 = 1 := rfl
theorem xpm_24 (pc : Nat) : xp 24 pc = xp_24.lookup pc := rfl
theorem xdm_24 : (xd 24).2.2.1 = 3 := rfl
theorem xpm_25 (pc : Nat) : xp 25 pc = xp_25.lookup pc := rfl
theorem xdm_25 : (xd 25).2.2.1 = 2 := rfl
theorem xpm_26 (pc : Nat) : xp 26 pc = xp_26.lookup pc := rfl
theorem xdm_26 : (xd 26).2.2.1 = 1 := rfl
theorem xpm_27 (pc : Nat) : xp 27 pc = xp_27.lookup pc := rfl
theorem xdm_27 : (xd 27).2.2.1 = 1 := rfl
theorem xpm_28 (pc : Nat) : xp 28 pc = xp_28.lookup pc := rfl
theorem xdm_28 : (xd 28).2.2.1 = 5 := rfl
theorem xpm_29 (pc : Nat) : xp 29 pc = xp_29.lookup pc := rfl
theorem xdm_29 : (xd 29).2.2.1 = 5 := rfl
theorem xpm_30 (pc : Nat) : xp 30 pc = xp_30.lookup pc := rfl
theorem xdm_30 : (xd 30).2.2.1 = 4 := rfl
theorem xpm_31 (pc : Nat) : xp 31 pc = xp_31.lookup pc := rfl
theorem xdm_31 : (xd 31).2.2.1 = 3 := rfl
theorem xpm_32 (pc : Nat) : xp 32 pc = xp_32.lookup pc := rfl
theorem xdm_32 : (xd 32).2.2.1 = 2 := rfl
theorem xpm_33 (pc : Nat) : xp 33 pc = xp_33.lookup pc := rfl
theorem xdm_33 : (xd 33).2.2.1 = 2 := rfl
theorem xpm_34 (pc : Nat) : xp 34 pc = xp_34.lookup pc := rfl
theorem xdm_34 : (xd 34).2.2.1 = 5 := rfl
theorem xpm_35 (pc : Nat) : xp 35 pc = xp_35.lookup pc := rfl
theorem xdm_35 : (xd 35).2.2.1 = 5 := rfl
theorem xpm_36 (pc : Nat) : xp 36 pc = xp_36.lookup pc := rfl
theorem xdm_36 : (xd 36).2.2.1 = 2 := rfl
theorem xpm_37 (pc : Nat) : xp 37 pc = xp_37.lookup pc := rfl
theorem xdm_37 : (xd 37).2.2.1 = 4 := rfl
theorem xpm_38 (pc : Nat) : xp 38 pc = xp_38.lookup pc := rfl
theorem xdm_38 : (xd 38).2.2.1 = 2 := rfl
theorem xpm_39 (pc : Nat) : xp 39 pc = xp_39.lookup pc := rfl
theorem xdm_39 : (xd 39).2.2.1 = 10 := rfl
theorem xpm_40 (pc : Nat) : xp 40 pc = xp_40.lookup pc := rfl
theorem xdm_40 : (xd 40).2.2.1 = 1 := rfl
theorem xpm_41 (pc : Nat) : xp 41 pc = xp_41.lookup pc := rfl
theorem xdm_41 : (xd 41).2.2.1 = 5 := rfl
theorem xpm_42 (pc : Nat) : xp 42 pc = xp_42.lookup pc := rfl
theorem xdm_42 : (xd 42).2.2.1 = 7 := rfl
theorem xpm_43 (pc : Nat) : xp 43 pc = xp_43.lookup pc := rfl
theorem xdm_43 : (xd 43).2.2.1 = 10 := rfl
theorem xpm_44 (pc : Nat) : xp 44 pc = xp_44.lookup pc := rfl
theorem xdm_44 : (xd 44).2.2.1 = 3 := rfl
theorem xpm_45 (pc : Nat) : xp 45 pc = xp_45.lookup pc := rfl
theorem xdm_45 : (xd 45).2.2.1 = 2 := rfl
theorem xpm_46 (pc : Nat) : xp 46 pc = xp_46.lookup pc := rfl
theorem xdm_46 : (xd 46).2.2.1 = 2 := rfl
theorem xpm_47 (pc : Nat) : xp 47 pc = xp_47.lookup pc := rfl
theorem xdm_47 : (xd 47).2.2.1 = 5 := rfl
theorem xpm_48 (pc : Nat) : xp 48 pc = xp_48.lookup pc := rfl
theorem xdm_48 : (xd 48).2.2.1 = 11 := rfl
theorem xpm_49 (pc : Nat) : xp 49 pc = xp_49.lookup pc := rfl
theorem xdm_49 : (xd 49).2.2.1 = 2 := rfl
theorem xpm_50 (pc : Nat) : xp 50 pc = xp_50.lookup pc := rfl
theorem xdm_50 : (xd 50).2.2.1 = 5 := rfl
theorem xpm_51 (pc : Nat) : xp 51 pc = xp_51.lookup pc := rfl
theorem xdm_51 : (xd 51).2.2.1 = 14 := rfl
theorem xpm_52 (pc : Nat) : xp 52 pc = xp_52.lookup pc := rfl
theorem xdm_52 : (xd 52).2.2.1 = 7 := rfl
theorem xpm_53 (pc : Nat) : xp 53 pc = xp_53.lookup pc := rfl
theorem xdm_53 : (xd 53).2.2.1 = 3 := rfl
theorem xpm_54 (pc : Nat) : xp 54 pc = xp_54.lookup pc := rfl
theorem xdm_54 : (xd 54).2.2.1 = 7 := rfl
theorem xpm_55 (pc : Nat) : xp 55 pc = xp_55.lookup pc := rfl
theorem xdm_55 : (xd 55).2.2.1 = 7 := rfl
theorem xpm_56 (pc : Nat) : xp 56 pc = xp_56.lookup pc := rfl
theorem xdm_56 : (xd 56).2.2.1 = 7 := rfl
theorem xpm_57 (pc : Nat) : xp 57 pc = xp_57.lookup pc := rfl
theorem xdm_57 : (xd 57).2.2.1 = 3 := rfl
theorem xpm_58 (pc : Nat) : xp 58 pc = xp_58.lookup pc := rfl
theorem xdm_58 : (xd 58).2.2.1 = 3 := rfl
theorem xpm_59 (pc : Nat) : xp 59 pc = xp_59.lookup pc := rfl
theorem xdm_59 : (xd 59).2.2.1 = 2 := rfl
theorem xpm_60 (pc : Nat) : xp 60 pc = xp_60.lookup pc := rfl
theorem xdm_60 : (xd 60).2.2.1 = 2 := rfl
theorem xpm_61 (pc : Nat) : xp 61 pc = xp_61.lookup pc := rfl
theorem xdm_61 : (xd 61).2.2.1 = 5 := rfl
theorem xpm_62 (pc : Nat) : xp 62 pc = xp_62.lookup pc := rfl
theorem xdm_62 : (xd 62).2.2.1 = 4 := rfl
theorem xpm_63 (pc : Nat) : xp 63 pc = xp_63.lookup pc := rfl
theorem xdm_63 : (xd 63).2.2.1 = 5 := rfl
theorem xpm_64 (pc : Nat) : xp 64 pc = xp_64.lookup pc := rfl
theorem xdm_64 : (xd 64).2.2.1 = 8 := rfl
theorem xpm_65 (pc : Nat) : xp 65 pc = xp_65.lookup pc := rfl
theorem xdm_65 : (xd 65).2.2.1 = 5 := rfl
theorem xpm_66 (pc : Nat) : xp 66 pc = xp_66.lookup pc := rfl
theorem xdm_66 : (xd 66).2.2.1 = 5 := rfl
theorem xpm_67 (pc : Nat) : xp 67 pc = xp_67.lookup pc := rfl
theorem xdm_67 : (xd 67).2.2.1 = 6 := rfl
theorem xpm_68 (pc : Nat) : xp 68 pc = xp_68.lookup pc := rfl
theorem xdm_68 : (xd 68).2.2.1 = 7 := rfl
theorem xpm_69 (pc : Nat) : xp 69 pc = xp_69.lookup pc := rfl
theorem xdm_69 : (xd 69).2.2.1 = 4 := rfl
theorem xpm_70 (pc : Nat) : xp 70 pc = xp_70.lookup pc := rfl
theorem xdm_70 : (xd 70).2.2.1 = 2 := rfl
theorem xpm_71 (pc : Nat) : xp 71 pc = xp_71.lookup pc := rfl
theorem xdm_71 : (xd 71).2.2.1 = 1 := rfl
theorem xpm_72 (pc : Nat) : xp 72 pc = xp_72.lookup pc := rfl
theorem xdm_72 : (xd 72).2.2.1 = 6 := rfl
theorem xpm_73 (pc : Nat) : xp 73 pc = xp_73.lookup pc := rfl
theorem xdm_73 : (xd 73).2.2.1 = 4 := rfl
theorem xpm_74 (pc : Nat) : xp 74 pc = xp_74.lookup pc := rfl
theorem xdm_74 : (xd 74).2.2.1 = 5 := rfl
theorem xpm_75 (pc : Nat) : xp 75 pc = xp_75.lookup pc := rfl
theorem xdm_75 : (xd 75).2.2.1 = 3 := rfl
theorem xpm_76 (pc : Nat) : xp 76 pc = xp_76.lookup pc := rfl
theorem xdm_76 : (xd 76).2.2.1 = 5 := rfl
theorem xpm_77 (pc : Nat) : xp 77 pc = xp_77.lookup pc := rfl
theorem xdm_77 : (xd 77).2.2.1 = 8 := rfl
theorem xpm_78 (pc : Nat) : xp 78 pc = xp_78.lookup pc := rfl
theorem xdm_78 : (xd 78).2.2.1 = 11 := rfl
theorem xpm_79 (pc : Nat) : xp 79 pc = xp_79.lookup pc := rfl
theorem xdm_79 : (xd 79).2.2.1 = 5 := rfl
theorem xpm_80 (pc : Nat) : xp 80 pc = xp_80.lookup pc := rfl
theorem xdm_80 : (xd 80).2.2.1 = 4 := rfl
theorem xpm_81 (pc : Nat) : xp 81 pc = xp_81.lookup pc := rfl
theorem xdm_81 : (xd 81).2.2.1 = 2 := rfl
theorem xpm_82 (pc : Nat) : xp 82 pc = xp_82.lookup pc := rfl
theorem xdm_82 : (xd 82).2.2.1 = 13 := rfl
theorem xpm_83 (pc : Nat) : xp 83 pc = xp_83.lookup pc := rfl
theorem xdm_83 : (xd 83).2.2.1 = 1 := rfl
theorem xpm_84 (pc : Nat) : xp 84 pc = xp_84.lookup pc := rfl
theorem xdm_84 : (xd 84).2.2.1 = 5 := rfl
theorem xpm_85 (pc : Nat) : xp 85 pc = xp_85.lookup pc := rfl
theorem xdm_85 : (xd 85).2.2.1 = 3 := rfl
theorem xpm_86 (pc : Nat) : xp 86 pc = xp_86.lookup pc := rfl
theorem xdm_86 : (xd 86).2.2.1 = 8 := rfl
theorem xpm_87 (pc : Nat) : xp 87 pc = xp_87.lookup pc := rfl
theorem xdm_87 : (xd 87).2.2.1 = 1 := rfl
theorem xpm_88 (pc : Nat) : xp 88 pc = xp_88.lookup pc := rfl
theorem xdm_88 : (xd 88).2.2.1 = 1 := rfl
theorem xpm_89 (pc : Nat) : xp 89 pc = xp_89.lookup pc := rfl
theorem xdm_89 : (xd 89).2.2.1 = 2 := rfl
theorem xpm_90 (pc : Nat) : xp 90 pc = xp_90.lookup pc := rfl
theorem xdm_90 : (xd 90).2.2.1 = 4 := rfl
theorem xpm_91 (pc : Nat) : xp 91 pc = xp_91.lookup pc := rfl
theorem xdm_91 : (xd 91).2.2.1 = 4 := rfl
theorem xpm_92 (pc : Nat) : xp 92 pc = xp_92.lookup pc := rfl
theorem xdm_92 : (xd 92).2.2.1 = 2 := rfl
theorem xpm_93 (pc : Nat) : xp 93 pc = xp_93.lookup pc := rfl
theorem xdm_93 : (xd 93).2.2.1 = 2 := rfl
theorem xpm_94 (pc : Nat) : xp 94 pc = xp_94.lookup pc := rfl
theorem xdm_94 : (xd 94).2.2.1 = 1 := rfl
theorem xpm_95 (pc : Nat) : xp 95 pc = xp_95.lookup pc := rfl
theorem xdm_95 : (xd 95).2.2.1 = 3 := rfl
theorem xpm_96 (pc : Nat) : xp 96 pc = xp_96.lookup pc := rfl
theorem xdm_96 : (xd 96).2.2.1 = 3 := rfl
theorem xpm_97 (pc : Nat) : xp 97 pc = xp_97.lookup pc := rfl
theorem xdm_97 : (xd 97).2.2.1 = 3 := rfl
theorem xpm_98 (pc : Nat) : xp 98 pc = xp_98.lookup pc := rfl
theorem xdm_98 : (xd 98).2.2.1 = 2 := rfl
theorem xpm_99 (pc : Nat) : xp 99 pc = xp_99.lookup pc := rfl
theorem xdm_99 : (xd 99).2.2.1 = 3 := rfl
theorem xpm_100 (pc : Nat) : xp 100 pc = xp_100.lookup pc := rfl
theorem xdm_100 : (xd 100).2.2.1 = 5 := rfl
theorem xpm_101 (pc : Nat) : xp 101 pc = xp_101.lookup pc := rfl
theorem xdm_101 : (xd 101).2.2.1 = 3 := rfl
theorem xpm_102 (pc : Nat) : xp 102 pc = xp_102.lookup pc := rfl
theorem xdm_102 : (xd 102).2.2.1 = 2 := rfl
theorem xpm_103 (pc : Nat) : xp 103 pc = xp_103.lookup pc := rfl
theorem xdm_103 : (xd 103).2.2.1 = 1 := rfl
theorem xpm_104 (pc : Nat) : xp 104 pc = xp_104.lookup pc := rfl
theorem xdm_104 : (xd 104).2.2.1 = 5 := rfl
theorem xpm_105 (pc : Nat) : xp 105 pc = xp_105.lookup pc := rfl
theorem xdm_105 : (xd 105).2.2.1 = 5 := rfl
theorem xpm_106 (pc : Nat) : xp 106 pc = xp_106.lookup pc := rfl
theorem xdm_106 : (xd 106).2.2.1 = 5 := rfl
theorem xpm_107 (pc : Nat) : xp 107 pc = xp_107.lookup pc := rfl
theorem xdm_107 : (xd 107).2.2.1 = 4 := rfl
theorem xpm_108 (pc : Nat) : xp 108 pc = xp_108.lookup pc := rfl
theorem xdm_108 : (xd 108).2.2.1 = 4 := rfl
theorem xpm_109 (pc : Nat) : xp 109 pc = xp_109.lookup pc := rfl
theorem xdm_109 : (xd 109).2.2.1 = 2 := rfl
theorem xpm_110 (pc : Nat) : xp 110 pc = xp_110.lookup pc := rfl
theorem xdm_110 : (xd 110).2.2.1 = 2 := rfl
theorem xpm_111 (pc : Nat) : xp 111 pc = xp_111.lookup pc := rfl
theorem xdm_111 : (xd 111).2.2.1 = 3 := rfl
theorem xpm_112 (pc : Nat) : xp 112 pc = xp_112.lookup pc := rfl
theorem xdm_112 : (xd 112).2.2.1 = 2 := rfl
theorem xpm_113 (pc : Nat) : xp 113 pc = xp_113.lookup pc := rfl
theorem xdm_113 : (xd 113).2.2.1 = 3 := rfl
theorem xpm_114 (pc : Nat) : xp 114 pc = xp_114.lookup pc := rfl
theorem xdm_114 : (xd 114).2.2.1 = 3 := rfl
theorem xpm_115 (pc : Nat) : xp 115 pc = xp_115.lookup pc := rfl
theorem xdm_115 : (xd 115).2.2.1 = 1 := rfl
theorem xpm_116 (pc : Nat) : xp 116 pc = xp_116.lookup pc := rfl
theorem xdm_116 : (xd 116).2.2.1 = 3 := rfl
theorem xpm_117 (pc : Nat) : xp 117 pc = xp_117.lookup pc := rfl
theorem xdm_117 : (xd 117).2.2.1 = 4 := rfl
theorem xpm_118 (pc : Nat) : xp 118 pc = xp_118.lookup pc := rfl
theorem xdm_118 : (xd 118).2.2.1 = 5 := rfl
theorem xpm_119 (pc : Nat) : xp 119 pc = xp_119.lookup pc := rfl
theorem xdm_119 : (xd 119).2.2.1 = 1 := rfl
theorem xpm_120 (pc : Nat) : xp 120 pc = xp_120.lookup pc := rfl
theorem xdm_120 : (xd 120).2.2.1 = 7 := rfl
theorem xpm_121 (pc : Nat) : xp 121 pc = xp_121.lookup pc := rfl
theorem xdm_121 : (xd 121).2.2.1 = 6 := rfl
theorem xpm_122 (pc : Nat) : xp 122 pc = xp_122.lookup pc := rfl
theorem xdm_122 : (xd 122).2.2.1 = 2 := rfl
theorem xpm_123 (pc : Nat) : xp 123 pc = xp_123.lookup pc := rfl
theorem xdm_123 : (xd 123).2.2.1 = 1 := rfl
theorem xpm_124 (pc : Nat) : xp 124 pc = xp_124.lookup pc := rfl
theorem xdm_124 : (xd 124).2.2.1 = 3 := rfl
theorem xpm_125 (pc : Nat) : xp 125 pc = xp_125.lookup pc := rfl
theorem xdm_125 : (xd 125).2.2.1 = 3 := rfl
theorem xpm_126 (pc : Nat) : xp 126 pc = xp_126.lookup pc := rfl
theorem xdm_126 : (xd 126).2.2.1 = 2 := rfl
theorem xpm_127 (pc : Nat) : xp 127 pc = xp_127.lookup pc := rfl
theorem xdm_127 : (xd 127).2.2.1 = 6 := rfl
theorem xpm_128 (pc : Nat) : xp 128 pc = xp_128.lookup pc := rfl
theorem xdm_128 : (xd 128).2.2.1 = 3 := rfl
theorem xpm_129 (pc : Nat) : xp 129 pc = xp_129.lookup pc := rfl
theorem xdm_129 : (xd 129).2.2.1 = 2 := rfl
theorem xpm_130 (pc : Nat) : xp 130 pc = xp_130.lookup pc := rfl
theorem xdm_130 : (xd 130).2.2.1 = 7 := rfl
theorem xpm_131 (pc : Nat) : xp 131 pc = xp_131.lookup pc := rfl
theorem xdm_131 : (xd 131).2.2.1 = 2 := rfl
theorem xpm_132 (pc : Nat) : xp 132 pc = xp_132.lookup pc := rfl
theorem xdm_132 : (xd 132).2.2.1 = 5 := rfl
theorem xpm_133 (pc : Nat) : xp 133 pc = xp_133.lookup pc := rfl
theorem xdm_133 : (xd 133).2.2.1 = 5 := rfl
theorem xpm_134 (pc : Nat) : xp 134 pc = xp_134.lookup pc := rfl
theorem xdm_134 : (xd 134).2.2.1 = 3 := rfl
theorem xpm_135 (pc : Nat) : xp 135 pc = xp_135.lookup pc := rfl
theorem xdm_135 : (xd 135).2.2.1 = 5 := rfl
theorem xpm_136 (pc : Nat) : xp 136 pc = xp_136.lookup pc := rfl
theorem xdm_136 : (xd 136).2.2.1 = 4 := rfl
theorem xpm_137 (pc : Nat) : xp 137 pc = xp_137.lookup pc := rfl
theorem xdm_137 : (xd 137).2.2.1 = 5 := rfl
theorem xpm_138 (pc : Nat) : xp 138 pc = xp_138.lookup pc := rfl
theorem xdm_138 : (xd 138).2.2.1 = 1 := rfl
theorem xpm_139 (pc : Nat) : xp 139 pc = xp_139.lookup pc := rfl
theorem xdm_139 : (xd 139).2.2.1 = 2 := rfl
theorem xpm_140 (pc : Nat) : xp 140 pc = xp_140.lookup pc := rfl
theorem xdm_140 : (xd 140).2.2.1 = 1 := rfl
theorem xpm_141 (pc : Nat) : xp 141 pc = xp_141.lookup pc := rfl
theorem xdm_141 : (xd 141).2.2.1 = 11 := rfl
theorem xpm_142 (pc : Nat) : xp 142 pc = xp_142.lookup pc := rfl
theorem xdm_142 : (xd 142).2.2.1 = 2 := rfl
theorem xpm_143 (pc : Nat) : xp 143 pc = xp_143.lookup pc := rfl
theorem xdm_143 : (xd 143).2.2.1 = 1 := rfl
theorem xpm_144 (pc : Nat) : xp 144 pc = xp_144.lookup pc := rfl
theorem xdm_144 : (xd 144).2.2.1 = 2 := rfl
theorem xpm_145 (pc : Nat) : xp 145 pc = xp_145.lookup pc := rfl
theorem xdm_145 : (xd 145).2.2.1 = 2 := rfl
theorem xpm_146 (pc : Nat) : xp 146 pc = xp_146.lookup pc := rfl
theorem xdm_146 : (xd 146).2.2.1 = 2 := rfl
theorem xpm_147 (pc : Nat) : xp 147 pc = xp_147.lookup pc := rfl
theorem xdm_147 : (xd 147).2.2.1 = 3 := rfl
theorem xpm_148 (pc : Nat) : xp 148 pc = xp_148.lookup pc := rfl
theorem xdm_148 : (xd 148).2.2.1 = 2 := rfl
theorem xpm_149 (pc : Nat) : xp 149 pc = xp_149.lookup pc := rfl
theorem xdm_149 : (xd 149).2.2.1 = 2 := rfl
theorem xpm_150 (pc : Nat) : xp 150 pc = xp_150.lookup pc := rfl
theorem xdm_150 : (xd 150).2.2.1 = 2 := rfl
theorem xpm_151 (pc : Nat) : xp 151 pc = xp_151.lookup pc := rfl
theorem xdm_151 : (xd 151).2.2.1 = 1 := rfl
theorem xpm_152 (pc : Nat) : xp 152 pc = xp_152.lookup pc := rfl
theorem xdm_152 : (xd 152).2.2.1 = 3 := rfl
theorem xpm_153 (pc : Nat) : xp 153 pc = xp_153.lookup pc := rfl
theorem xdm_153 : (xd 153).2.2.1 = 2 := rfl
theorem xpm_154 (pc : Nat) : xp 154 pc = xp_154.lookup pc := rfl
theorem xdm_154 : (xd 154).2.2.1 = 1 := rfl
theorem xpm_155 (pc : Nat) : xp 155 pc = xp_155.lookup pc := rfl
theorem xdm_155 : (xd 155).2.2.1 = 2 := rfl
theorem xpm_156 (pc : Nat) : xp 156 pc = xp_156.lookup pc := rfl
theorem xdm_156 : (xd 156).2.2.1 = 1 := rfl
theorem xpm_157 (pc : Nat) : xp 157 pc = xp_157.lookup pc := rfl
theorem xdm_157 : (xd 157).2.2.1 = 3 := rfl
theorem xpm_158 (pc : Nat) : xp 158 pc = xp_158.lookup pc := rfl
theorem xdm_158 : (xd 158).2.2.1 = 3 := rfl
theorem xpm_159 (pc : Nat) : xp 159 pc = xp_159.lookup pc := rfl
theorem xdm_159 : (xd 159).2.2.1 = 2 := rfl
theorem xpm_160 (pc : Nat) : xp 160 pc = xp_160.lookup pc := rfl
theorem xdm_160 : (xd 160).2.2.1 = 1 := rfl
theorem xpm_161 (pc : Nat) : xp 161 pc = xp_161.lookup pc := rfl
theorem xdm_161 : (xd 161).2.2.1 = 8 := rfl
theorem xpm_162 (pc : Nat) : xp 162 pc = xp_162.lookup pc := rfl
theorem xdm_162 : (xd 162).2.2.1 = 2 := rfl
theorem xpm_163 (pc : Nat) : xp 163 pc = xp_163.lookup pc := rfl
theorem xdm_163 : (xd 163).2.2.1 = 6 := rfl
theorem xpm_164 (pc : Nat) : xp 164 pc = xp_164.lookup pc := rfl
theorem xdm_164 : (xd 164).2.2.1 = 6 := rfl
theorem xpm_165 (pc : Nat) : xp 165 pc = xp_165.lookup pc := rfl
theorem xdm_165 : (xd 165).2.2.1 = 2 := rfl
theorem xpm_166 (pc : Nat) : xp 166 pc = xp_166.lookup pc := rfl
theorem xdm_166 : (xd 166).2.2.1 = 2 := rfl
theorem xpm_167 (pc : Nat) : xp 167 pc = xp_167.lookup pc := rfl
theorem xdm_167 : (xd 167).2.2.1 = 3 := rfl
theorem xpm_168 (pc : Nat) : xp 168 pc = xp_168.lookup pc := rfl
theorem xdm_168 : (xd 168).2.2.1 = 1 := rfl
theorem xpm_169 (pc : Nat) : xp 169 pc = xp_169.lookup pc := rfl
theorem xdm_169 : (xd 169).2.2.1 = 4 := rfl
theorem xpm_170 (pc : Nat) : xp 170 pc = xp_170.lookup pc := rfl
theorem xdm_170 : (xd 170).2.2.1 = 2 := rfl
theorem xpm_171 (pc : Nat) : xp 171 pc = xp_171.lookup pc := rfl
theorem xdm_171 : (xd 171).2.2.1 = 1 := rfl
theorem xpm_172 (pc : Nat) : xp 172 pc = xp_172.lookup pc := rfl
theorem xdm_172 : (xd 172).2.2.1 = 5 := rfl
theorem xpm_173 (pc : Nat) : xp 173 pc = xp_173.lookup pc := rfl
theorem xdm_173 : (xd 173).2.2.1 = 4 := rfl
theorem xpm_174 (pc : Nat) : xp 174 pc = xp_174.lookup pc := rfl
theorem xdm_174 : (xd 174).2.2.1 = 2 := rfl
theorem xpm_175 (pc : Nat) : xp 175 pc = xp_175.lookup pc := rfl
theorem xdm_175 : (xd 175).2.2.1 = 2 := rfl
theorem xpm_176 (pc : Nat) : xp 176 pc = xp_176.lookup pc := rfl
theorem xdm_176 : (xd 176).2.2.1 = 3 := rfl
theorem xpm_177 (pc : Nat) : xp 177 pc = xp_177.lookup pc := rfl
theorem xdm_177 : (xd 177).2.2.1 = 3 := rfl
theorem xpm_178 (pc : Nat) : xp 178 pc = xp_178.lookup pc := rfl
theorem xdm_178 : (xd 178).2.2.1 = 4 := rfl
theorem xpm_179 (pc : Nat) : xp 179 pc = xp_179.lookup pc := rfl
theorem xdm_179 : (xd 179).2.2.1 = 6 := rfl
theorem xpm_180 (pc : Nat) : xp 180 pc = xp_180.lookup pc := rfl
theorem xdm_180 : (xd 180).2.2.1 = 4 := rfl
theorem xpm_181 (pc : Nat) : xp 181 pc = xp_181.lookup pc := rfl
theorem xdm_181 : (xd 181).2.2.1 = 2 := rfl
theorem xpm_182 (pc : Nat) : xp 182 pc = xp_182.lookup pc := rfl
theorem xdm_182 : (xd 182).2.2.1 = 4 := rfl
theorem xpm_183 (pc : Nat) : xp 183 pc = xp_183.lookup pc := rfl
theorem xdm_183 : (xd 183).2.2.1 = 4 := rfl
theorem xpm_184 (pc : Nat) : xp 184 pc = xp_184.lookup pc := rfl
theorem xdm_184 : (xd 184).2.2.1 = 5 := rfl
theorem xpm_185 (pc : Nat) : xp 185 pc = xp_185.lookup pc := rfl
theorem xdm_185 : (xd 185).2.2.1 = 5 := rfl
theorem xpm_186 (pc : Nat) : xp 186 pc = xp_186.lookup pc := rfl
theorem xdm_186 : (xd 186).2.2.1 = 1 := rfl
theorem xpm_187 (pc : Nat) : xp 187 pc = xp_187.lookup pc := rfl
theorem xdm_187 : (xd 187).2.2.1 = 2 := rfl
theorem xpm_188 (pc : Nat) : xp 188 pc = xp_188.lookup pc := rfl
theorem xdm_188 : (xd 188).2.2.1 = 5 := rfl
theorem xpm_189 (pc : Nat) : xp 189 pc = xp_189.lookup pc := rfl
theorem xdm_189 : (xd 189).2.2.1 = 3 := rfl
theorem xpm_190 (pc : Nat) : xp 190 pc = xp_190.lookup pc := rfl
theorem xdm_190 : (xd 190).2.2.1 = 5 := rfl
theorem xpm_191 (pc : Nat) : xp 191 pc = xp_191.lookup pc := rfl
theorem xdm_191 : (xd 191).2.2.1 = 3 := rfl
theorem xpm_192 (pc : Nat) : xp 192 pc = xp_192.lookup pc := rfl
theorem xdm_192 : (xd 192).2.2.1 = 4 := rfl
theorem xpm_193 (pc : Nat) : xp 193 pc = xp_193.lookup pc := rfl
theorem xdm_193 : (xd 193).2.2.1 = 2 := rfl
theorem xpm_194 (pc : Nat) : xp 194 pc = xp_194.lookup pc := rfl
theorem xdm_194 : (xd 194).2.2.1 = 5 := rfl
theorem xpm_195 (pc : Nat) : xp 195 pc = xp_195.lookup pc := rfl
theorem xdm_195 : (xd 195).2.2.1 = 4 := rfl
theorem xpm_196 (pc : Nat) : xp 196 pc = xp_196.lookup pc := rfl
theorem xdm_196 : (xd 196).2.2.1 = 2 := rfl
theorem xpm_197 (pc : Nat) : xp 197 pc = xp_197.lookup pc := rfl
theorem xdm_197 : (xd 197).2.2.1 = 4 := rfl
theorem xpm_198 (pc : Nat) : xp 198 pc = xp_198.lookup pc := rfl
theorem xdm_198 : (xd 198).2.2.1 = 2 := rfl
theorem xpm_199 (pc : Nat) : xp 199 pc = xp_199.lookup pc := rfl
theorem xdm_199 : (xd 199).2.2.1 = 10 := rfl
theorem xpm_200 (pc : Nat) : xp 200 pc = xp_200.lookup pc := rfl
theorem xdm_200 : (xd 200).2.2.1 = 3 := rfl
theorem xpm_201 (pc : Nat) : xp 201 pc = xp_201.lookup pc := rfl
theorem xdm_201 : (xd 201).2.2.1 = 5 := rfl
theorem xpm_202 (pc : Nat) : xp 202 pc = xp_202.lookup pc := rfl
theorem xdm_202 : (xd 202).2.2.1 = 11 := rfl
theorem xpm_203 (pc : Nat) : xp 203 pc = xp_203.lookup pc := rfl
theorem xdm_203 : (xd 203).2.2.1 = 6 := rfl
theorem xpm_204 (pc : Nat) : xp 204 pc = xp_204.lookup pc := rfl
theorem xdm_204 : (xd 204).2.2.1 = 5 := rfl
theorem xpm_205 (pc : Nat) : xp 205 pc = xp_205.lookup pc := rfl
theorem xdm_205 : (xd 205).2.2.1 = 4 := rfl
theorem xpm_206 (pc : Nat) : xp 206 pc = xp_206.lookup pc := rfl
theorem xdm_206 : (xd 206).2.2.1 = 11 := rfl
theorem xpm_207 (pc : Nat) : xp 207 pc = xp_207.lookup pc := rfl
theorem xdm_207 : (xd 207).2.2.1 = 4 := rfl
theorem xpm_208 (pc : Nat) : xp 208 pc = xp_208.lookup pc := rfl
theorem xdm_208 : (xd 208).2.2.1 = 5 := rfl
theorem xpm_209 (pc : Nat) : xp 209 pc = xp_209.lookup pc := rfl
theorem xdm_209 : (xd 209).2.2.1 = 10 := rfl
theorem xpm_210 (pc : Nat) : xp 210 pc = xp_210.lookup pc := rfl
theorem xdm_210 : (xd 210).2.2.1 = 11 := rfl
theorem xpm_211 (pc : Nat) : xp 211 pc = xp_211.lookup pc := rfl
theorem xdm_211 : (xd 211).2.2.1 = 11 := rfl
theorem xpm_212 (pc : Nat) : xp 212 pc = xp_212.lookup pc := rfl
theorem xdm_212 : (xd 212).2.2.1 = 2 := rfl
theorem xpm_213 (pc : Nat) : xp 213 pc = xp_213.lookup pc := rfl
theorem xdm_213 : (xd 213).2.2.1 = 7 := rfl
theorem xpm_214 (pc : Nat) : xp 214 pc = xp_214.lookup pc := rfl
theorem xdm_214 : (xd 214).2.2.1 = 7 := rfl
theorem xpm_215 (pc : Nat) : xp 215 pc = xp_215.lookup pc := rfl
theorem xdm_215 : (xd 215).2.2.1 = 7 := rfl
theorem xpm_216 (pc : Nat) : xp 216 pc = xp_216.lookup pc := rfl
theorem xdm_216 : (xd 216).2.2.1 = 3 := rfl
theorem xpm_217 (pc : Nat) : xp 217 pc = xp_217.lookup pc := rfl
theorem xdm_217 : (xd 217).2.2.1 = 3 := rfl
theorem xpm_218 (pc : Nat) : xp 218 pc = xp_218.lookup pc := rfl
theorem xdm_218 : (xd 218).2.2.1 = 3 := rfl
theorem xpm_219 (pc : Nat) : xp 219 pc = xp_219.lookup pc := rfl
theorem xdm_219 : (xd 219).2.2.1 = 3 := rfl
theorem xpm_220 (pc : Nat) : xp 220 pc = xp_220.lookup pc := rfl
theorem xdm_220 : (xd 220).2.2.1 = 7 := rfl
theorem xpm_221 (pc : Nat) : xp 221 pc = xp_221.lookup pc := rfl
theorem xdm_221 : (xd 221).2.2.1 = 5 := rfl
theorem xpm_222 (pc : Nat) : xp 222 pc = xp_222.lookup pc := rfl
theorem xdm_222 : (xd 222).2.2.1 = 11 := rfl
theorem xpm_223 (pc : Nat) : xp 223 pc = xp_223.lookup pc := rfl
theorem xdm_223 : (xd 223).2.2.1 = 5 := rfl
theorem xpm_224 (pc : Nat) : xp 224 pc = xp_224.lookup pc := rfl
theorem xdm_224 : (xd 224).2.2.1 = 10 := rfl
theorem xpm_225 (pc : Nat) : xp 225 pc = xp_225.lookup pc := rfl
theorem xdm_225 : (xd 225).2.2.1 = 2 := rfl
theorem xpm_226 (pc : Nat) : xp 226 pc = xp_226.lookup pc := rfl
theorem xdm_226 : (xd 226).2.2.1 = 7 := rfl
theorem xpm_227 (pc : Nat) : xp 227 pc = xp_227.lookup pc := rfl
theorem xdm_227 : (xd 227).2.2.1 = 5 := rfl
theorem xpm_228 (pc : Nat) : xp 228 pc = xp_228.lookup pc := rfl
theorem xdm_228 : (xd 228).2.2.1 = 3 := rfl
theorem xpm_229 (pc : Nat) : xp 229 pc = xp_229.lookup pc := rfl
theorem xdm_229 : (xd 229).2.2.1 = 7 := rfl
theorem xpm_230 (pc : Nat) : xp 230 pc = xp_230.lookup pc := rfl
theorem xdm_230 : (xd 230).2.2.1 = 7 := rfl
theorem xpm_231 (pc : Nat) : xp 231 pc = xp_231.lookup pc := rfl
theorem xdm_231 : (xd 231).2.2.1 = 6 := rfl
theorem xpm_232 (pc : Nat) : xp 232 pc = xp_232.lookup pc := rfl
theorem xdm_232 : (xd 232).2.2.1 = 7 := rfl
theorem xpm_233 (pc : Nat) : xp 233 pc = xp_233.lookup pc := rfl
theorem xdm_233 : (xd 233).2.2.1 = 9 := rfl
theorem xpm_234 (pc : Nat) : xp 234 pc = xp_234.lookup pc := rfl
theorem xdm_234 : (xd 234).2.2.1 = 5 := rfl
theorem xpm_235 (pc : Nat) : xp 235 pc = xp_235.lookup pc := rfl
theorem xdm_235 : (xd 235).2.2.1 = 11 := rfl
theorem xpm_236 (pc : Nat) : xp 236 pc = xp_236.lookup pc := rfl
theorem xdm_236 : (xd 236).2.2.1 = 5 := rfl
theorem xpm_237 (pc : Nat) : xp 237 pc = xp_237.lookup pc := rfl
theorem xdm_237 : (xd 237).2.2.1 = 4 := rfl
theorem xpm_238 (pc : Nat) : xp 238 pc = xp_238.lookup pc := rfl
theorem xdm_238 : (xd 238).2.2.1 = 5 := rfl
theorem xpm_239 (pc : Nat) : xp 239 pc = xp_239.lookup pc := rfl
theorem xdm_239 : (xd 239).2.2.1 = 4 := rfl
theorem xpm_240 (pc : Nat) : xp 240 pc = xp_240.lookup pc := rfl
theorem xdm_240 : (xd 240).2.2.1 = 6 := rfl
theorem xpm_241 (pc : Nat) : xp 241 pc = xp_241.lookup pc := rfl
theorem xdm_241 : (xd 241).2.2.1 = 2 := rfl
theorem xpm_242 (pc : Nat) : xp 242 pc = xp_242.lookup pc := rfl
theorem xdm_242 : (xd 242).2.2.1 = 2 := rfl
theorem xpm_243 (pc : Nat) : xp 243 pc = xp_243.lookup pc := rfl
theorem xdm_243 : (xd 243).2.2.1 = 2 := rfl
theorem xpm_244 (pc : Nat) : xp 244 pc = xp_244.lookup pc := rfl
theorem xdm_244 : (xd 244).2.2.1 = 1 := rfl
theorem xpm_245 (pc : Nat) : xp 245 pc = xp_245.lookup pc := rfl
theorem xdm_245 : (xd 245).2.2.1 = 2 := rfl
theorem xpm_246 (pc : Nat) : xp 246 pc = xp_246.lookup pc := rfl
theorem xdm_246 : (xd 246).2.2.1 = 2 := rfl
theorem xpm_247 (pc : Nat) : xp 247 pc = xp_247.lookup pc := rfl
theorem xdm_247 : (xd 247).2.2.1 = 2 := rfl
theorem xpm_248 (pc : Nat) : xp 248 pc = xp_248.lookup pc := rfl
theorem xdm_248 : (xd 248).2.2.1 = 2 := rfl
theorem xpm_249 (pc : Nat) : xp 249 pc = xp_249.lookup pc := rfl
theorem xdm_249 : (xd 249).2.2.1 = 2 := rfl
theorem xpm_250 (pc : Nat) : xp 250 pc = xp_250.lookup pc := rfl
theorem xdm_250 : (xd 250).2.2.1 = 2 := rfl
theorem xpm_251 (pc : Nat) : xp 251 pc = xp_251.lookup pc := rfl
theorem xdm_251 : (xd 251).2.2.1 = 2 := rfl
theorem xpm_252 (pc : Nat) : xp 252 pc = xp_252.lookup pc := rfl
theorem xdm_252 : (xd 252).2.2.1 = 4 := rfl
theorem xpm_253 (pc : Nat) : xp 253 pc = xp_253.lookup pc := rfl
theorem xdm_253 : (xd 253).2.2.1 = 2 := rfl
theorem xpm_254 (pc : Nat) : xp 254 pc = xp_254.lookup pc := rfl
theorem xdm_254 : (xd 254).2.2.1 = 3 := rfl
theorem xpm_255 (pc : Nat) : xp 255 pc = xp_255.lookup pc := rfl
theorem xdm_255 : (xd 255).2.2.1 = 2 := rfl
theorem xpm_256 (pc : Nat) : xp 256 pc = xp_256.lookup pc := rfl
theorem xdm_256 : (xd 256).2.2.1 = 3 := rfl
theorem xpm_257 (pc : Nat) : xp 257 pc = xp_257.lookup pc := rfl
theorem xdm_257 : (xd 257).2.2.1 = 2 := rfl
theorem xpm_258 (pc : Nat) : xp 258 pc = xp_258.lookup pc := rfl
theorem xdm_258 : (xd 258).2.2.1 = 3 := rfl
theorem xpm_259 (pc : Nat) : xp 259 pc = xp_259.lookup pc := rfl
theorem xdm_259 : (xd 259).2.2.1 = 2 := rfl
theorem xpm_260 (pc : Nat) : xp 260 pc = xp_260.lookup pc := rfl
theorem xdm_260 : (xd 260).2.2.1 = 3 := rfl
theorem xpm_261 (pc : Nat) : xp 261 pc = xp_261.lookup pc := rfl
theorem xdm_261 : (xd 261).2.2.1 = 2 := rfl
theorem xpm_262 (pc : Nat) : xp 262 pc = xp_262.lookup pc := rfl
theorem xdm_262 : (xd 262).2.2.1 = 3 := rfl
theorem xpm_263 (pc : Nat) : xp 263 pc = xp_263.lookup pc := rfl
theorem xdm_263 : (xd 263).2.2.1 = 2 := rfl
theorem xpm_264 (pc : Nat) : xp 264 pc = xp_264.lookup pc := rfl
theorem xdm_264 : (xd 264).2.2.1 = 3 := rfl
theorem xpm_265 (pc : Nat) : xp 265 pc = xp_265.lookup pc := rfl
theorem xdm_265 : (xd 265).2.2.1 = 2 := rfl
theorem xpm_266 (pc : Nat) : xp 266 pc = xp_266.lookup pc := rfl
theorem xdm_266 : (xd 266).2.2.1 = 3 := rfl
theorem xpm_267 (pc : Nat) : xp 267 pc = xp_267.lookup pc := rfl
theorem xdm_267 : (xd 267).2.2.1 = 2 := rfl
theorem xpm_268 (pc : Nat) : xp 268 pc = xp_268.lookup pc := rfl
theorem xdm_268 : (xd 268).2.2.1 = 3 := rfl
theorem xpm_269 (pc : Nat) : xp 269 pc = xp_269.lookup pc := rfl
theorem xdm_269 : (xd 269).2.2.1 = 5 := rfl
theorem xpm_270 (pc : Nat) : xp 270 pc = xp_270.lookup pc := rfl
theorem xdm_270 : (xd 270).2.2.1 = 3 := rfl
theorem xpm_271 (pc : Nat) : xp 271 pc = xp_271.lookup pc := rfl
theorem xdm_271 : (xd 271).2.2.1 = 5 := rfl
theorem xpm_272 (pc : Nat) : xp 272 pc = xp_272.lookup pc := rfl
theorem xdm_272 : (xd 272).2.2.1 = 2 := rfl
theorem xpm_273 (pc : Nat) : xp 273 pc = xp_273.lookup pc := rfl
theorem xdm_273 : (xd 273).2.2.1 = 2 := rfl
theorem xpm_274 (pc : Nat) : xp 274 pc = xp_274.lookup pc := rfl
theorem xdm_274 : (xd 274).2.2.1 = 3 := rfl
theorem xpm_275 (pc : Nat) : xp 275 pc = xp_275.lookup pc := rfl
theorem xdm_275 : (xd 275).2.2.1 = 3 := rfl
theorem xpm_276 (pc : Nat) : xp 276 pc = xp_276.lookup pc := rfl
theorem xdm_276 : (xd 276).2.2.1 = 1 := rfl
theorem xpm_277 (pc : Nat) : xp 277 pc = xp_277.lookup pc := rfl
theorem xdm_277 : (xd 277).2.2.1 = 1 := rfl
theorem xpm_278 (pc : Nat) : xp 278 pc = xp_278.lookup pc := rfl
theorem xdm_278 : (xd 278).2.2.1 = 2 := rfl
theorem xpm_279 (pc : Nat) : xp 279 pc = xp_279.lookup pc := rfl
theorem xdm_279 : (xd 279).2.2.1 = 1 := rfl
theorem xpm_280 (pc : Nat) : xp 280 pc = xp_280.lookup pc := rfl
theorem xdm_280 : (xd 280).2.2.1 = 1 := rfl
theorem xpm_281 (pc : Nat) : xp 281 pc = xp_281.lookup pc := rfl
theorem xdm_281 : (xd 281).2.2.1 = 2 := rfl
theorem xpm_282 (pc : Nat) : xp 282 pc = xp_282.lookup pc := rfl
theorem xdm_282 : (xd 282).2.2.1 = 2 := rfl
theorem xpm_283 (pc : Nat) : xp 283 pc = xp_283.lookup pc := rfl
theorem xdm_283 : (xd 283).2.2.1 = 2 := rfl
theorem xpm_284 (pc : Nat) : xp 284 pc = xp_284.lookup pc := rfl
theorem xdm_284 : (xd 284).2.2.1 = 4 := rfl
theorem xpm_285 (pc : Nat) : xp 285 pc = xp_285.lookup pc := rfl
theorem xdm_285 : (xd 285).2.2.1 = 1 := rfl
theorem xpm_286 (pc : Nat) : xp 286 pc = xp_286.lookup pc := rfl
theorem xdm_286 : (xd 286).2.2.1 = 4 := rfl
theorem xpm_287 (pc : Nat) : xp 287 pc = xp_287.lookup pc := rfl
theorem xdm_287 : (xd 287).2.2.1 = 4 := rfl
theorem xpm_288 (pc : Nat) : xp 288 pc = xp_288.lookup pc := rfl
theorem xdm_288 : (xd 288).2.2.1 = 1 := rfl
theorem xpm_289 (pc : Nat) : xp 289 pc = xp_289.lookup pc := rfl
theorem xdm_289 : (xd 289).2.2.1 = 2 := rfl
theorem xpm_290 (pc : Nat) : xp 290 pc = xp_290.lookup pc := rfl
theorem xdm_290 : (xd 290).2.2.1 = 3 := rfl
theorem xpm_291 (pc : Nat) : xp 291 pc = xp_291.lookup pc := rfl
theorem xdm_291 : (xd 291).2.2.1 = 1 := rfl
theorem xpm_292 (pc : Nat) : xp 292 pc = xp_292.lookup pc := rfl
theorem xdm_292 : (xd 292).2.2.1 = 1 := rfl
theorem xpm_293 (pc : Nat) : xp 293 pc = xp_293.lookup pc := rfl
theorem xdm_293 : (xd 293).2.2.1 = 1 := rfl
theorem xpm_294 (pc : Nat) : xp 294 pc = xp_294.lookup pc := rfl
theorem xdm_294 : (xd 294).2.2.1 = 3 := rfl
theorem xpm_295 (pc : Nat) : xp 295 pc = xp_295.lookup pc := rfl
theorem xdm_295 : (xd 295).2.2.1 = 2 := rfl
theorem xpm_296 (pc : Nat) : xp 296 pc = xp_296.lookup pc := rfl
theorem xdm_296 : (xd 296).2.2.1 = 2 := rfl
theorem xpm_297 (pc : Nat) : xp 297 pc = xp_297.lookup pc := rfl
theorem xdm_297 : (xd 297).2.2.1 = 4 := rfl
theorem xpm_298 (pc : Nat) : xp 298 pc = xp_298.lookup pc := rfl
theorem xdm_298 : (xd 298).2.2.1 = 1 := rfl
theorem xpm_299 (pc : Nat) : xp 299 pc = xp_299.lookup pc := rfl
theorem xdm_299 : (xd 299).2.2.1 = 6 := rfl
theorem xpm_300 (pc : Nat) : xp 300 pc = xp_300.lookup pc := rfl
theorem xdm_300 : (xd 300).2.2.1 = 2 := rfl
theorem xpm_301 (pc : Nat) : xp 301 pc = xp_301.lookup pc := rfl
theorem xdm_301 : (xd 301).2.2.1 = 2 := rfl
theorem xpm_302 (pc : Nat) : xp 302 pc = xp_302.lookup pc := rfl
theorem xdm_302 : (xd 302).2.2.1 = 2 := rfl
theorem xpm_303 (pc : Nat) : xp 303 pc = xp_303.lookup pc := rfl
theorem xdm_303 : (xd 303).2.2.1 = 1 := rfl
theorem xpm_304 (pc : Nat) : xp 304 pc = xp_304.lookup pc := rfl
theorem xdm_304 : (xd 304).2.2.1 = 4 := rfl
theorem xpm_305 (pc : Nat) : xp 305 pc = xp_305.lookup pc := rfl
theorem xdm_305 : (xd 305).2.2.1 = 3 := rfl
theorem xpm_306 (pc : Nat) : xp 306 pc = xp_306.lookup pc := rfl
theorem xdm_306 : (xd 306).2.2.1 = 2 := rfl
theorem xpm_307 (pc : Nat) : xp 307 pc = xp_307.lookup pc := rfl
theorem xdm_307 : (xd 307).2.2.1 = 1 := rfl
theorem xpm_308 (pc : Nat) : xp 308 pc = xp_308.lookup pc := rfl
theorem xdm_308 : (xd 308).2.2.1 = 1 := rfl
theorem xpm_309 (pc : Nat) : xp 309 pc = xp_309.lookup pc := rfl
theorem xdm_309 : (xd 309).2.2.1 = 3 := rfl
theorem xpm_310 (pc : Nat) : xp 310 pc = xp_310.lookup pc := rfl
theorem xdm_310 : (xd 310).2.2.1 = 3 := rfl
theorem xpm_311 (pc : Nat) : xp 311 pc = xp_311.lookup pc := rfl
theorem xdm_311 : (xd 311).2.2.1 = 4 := rfl
theorem xpm_312 (pc : Nat) : xp 312 pc = xp_312.lookup pc := rfl
theorem xdm_312 : (xd 312).2.2.1 = 2 := rfl
theorem xpm_313 (pc : Nat) : xp 313 pc = xp_313.lookup pc := rfl
theorem xdm_313 : (xd 313).2.2.1 = 4 := rfl
theorem xpm_314 (pc : Nat) : xp 314 pc = xp_314.lookup pc := rfl
theorem xdm_314 : (xd 314).2.2.1 = 8 := rfl
